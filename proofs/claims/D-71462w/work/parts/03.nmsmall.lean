theorem q69 : (Jvm.Cond.initialized "OneElasticLaw") ∈ lw_all := lw_g (lw_at lw_m1 0 rfl) rfl
set_option maxRecDepth 100000
theorem q102 : (Jvm.Cond.methodLink "OneElasticLaw" (13 : Nat) ({ cls := "OneElastic", name := "person", desc := "(IIIII)I" } : Jvm.MethodName)) ∈ lw_all := lw_g (lw_at lw_m1 33 rfl) rfl
theorem q230 : (Jvm.Cond.methodLink "OneElasticLaw" (18 : Nat) ({ cls := "OneElastic", name := "of", desc := "(II)I" } : Jvm.MethodName)) ∈ lw_all := lw_g (lw_at lw_m1 161 rfl) rfl
theorem q238 : (Jvm.Cond.methodLink "OneElasticLaw" (23 : Nat) ({ cls := "OneElastic", name := "place", desc := "(II)I" } : Jvm.MethodName)) ∈ lw_all := lw_g (lw_at lw_m1 169 rfl) rfl
theorem q284 : (Jvm.Cond.methodLink "OneElasticLaw" (27 : Nat) ({ cls := "OneElastic", name := "pulled", desc := "(II)I" } : Jvm.MethodName)) ∈ lw_all := lw_g (lw_at lw_m1 215 rfl) rfl
theorem q288 : (Jvm.Cond.methodLink "OneElasticLaw" (31 : Nat) ({ cls := "OneElastic", name := "pull", desc := "(II)I" } : Jvm.MethodName)) ∈ lw_all := lw_g (lw_at lw_m1 219 rfl) rfl
theorem q296 : (Jvm.Cond.methodLink "OneElasticLaw" (35 : Nat) ({ cls := "OneElastic", name := "seam", desc := "(II)I" } : Jvm.MethodName)) ∈ lw_all := lw_g (lw_at lw_m1 227 rfl) rfl
theorem q301 : (Jvm.Cond.methodLink "OneElasticLaw" (49 : Nat) ({ cls := "OneElastic", name := "count", desc := "(I)I" } : Jvm.MethodName)) ∈ lw_all := lw_g (lw_at lw_m1 232 rfl) rfl
theorem q323 : (Jvm.Cond.methodLink "OneElasticLaw" (39 : Nat) ({ cls := "OneElastic", name := "type", desc := "(I)I" } : Jvm.MethodName)) ∈ lw_all := lw_g (lw_at lw_m2 14 rfl) rfl
theorem q329 : (Jvm.Cond.methodLink "OneElasticLaw" (44 : Nat) ({ cls := "OneElastic", name := "street", desc := "()I" } : Jvm.MethodName)) ∈ lw_all := lw_g (lw_at lw_m2 20 rfl) rfl
theorem q521 : (Jvm.Cond.methodLink "OneElasticLaw" (53 : Nat) ({ cls := "OneElastic", name := "go", desc := "(II)I" } : Jvm.MethodName)) ∈ lw_all := lw_g (lw_at lw_m2 212 rfl) rfl
theorem q686 : (Jvm.Cond.methodLink "OneElasticLaw" (57 : Nat) ({ cls := "OneElastic", name := "let", desc := "(I)I" } : Jvm.MethodName)) ∈ lw_all := lw_g (lw_at lw_m3 137 rfl) rfl
theorem q690 : (Jvm.Cond.methodLink "OneElasticLaw" (61 : Nat) ({ cls := "OneElastic", name := "hold", desc := "(I)I" } : Jvm.MethodName)) ∈ lw_all := lw_g (lw_at lw_m3 141 rfl) rfl
theorem q710 : (Jvm.Cond.methodLink "OneElasticLaw" (65 : Nat) ({ cls := "OneElastic", name := "sew", desc := "(I)I" } : Jvm.MethodName)) ∈ lw_all := lw_g (lw_at lw_m3 161 rfl) rfl
theorem q714 : (Jvm.Cond.methodLink "OneElasticLaw" (69 : Nat) ({ cls := "OneElastic", name := "bears", desc := "(I)I" } : Jvm.MethodName)) ∈ lw_all := lw_g (lw_at lw_m3 165 rfl) rfl
theorem q719 : (Jvm.Cond.methodLink "OneElasticLaw" (73 : Nat) ({ cls := "OneElastic", name := "hours", desc := "(I)I" } : Jvm.MethodName)) ∈ lw_all := lw_g (lw_at lw_m3 170 rfl) rfl
theorem q727 : (Jvm.Cond.methodLink "OneElasticLaw" (77 : Nat) ({ cls := "OneElastic", name := "springs", desc := "(I)I" } : Jvm.MethodName)) ∈ lw_all := lw_g (lw_at lw_m3 178 rfl) rfl
theorem q745 : (Jvm.Cond.methodLink "OneElasticLaw" (81 : Nat) ({ cls := "OneElastic", name := "undo", desc := "()I" } : Jvm.MethodName)) ∈ lw_all := lw_g (lw_at lw_m3 196 rfl) rfl
theorem q764 : (Jvm.Cond.methodLink "OneElasticLaw" (85 : Nat) ({ cls := "OneElastic", name := "seed", desc := "(I)I" } : Jvm.MethodName)) ∈ lw_all := lw_g (lw_at lw_m3 215 rfl) rfl
theorem q768 : (Jvm.Cond.methodLink "OneElasticLaw" (89 : Nat) ({ cls := "OneElastic", name := "far", desc := "(II)I" } : Jvm.MethodName)) ∈ lw_all := lw_g (lw_at lw_m3 219 rfl) rfl
theorem q780 : (Jvm.Cond.methodLink "OneElasticLaw" (93 : Nat) ({ cls := "OneElastic", name := "fall", desc := "(II)I" } : Jvm.MethodName)) ∈ lw_all := lw_g (lw_at lw_m3 231 rfl) rfl
theorem q784 : (Jvm.Cond.methodLink "OneElasticLaw" (97 : Nat) ({ cls := "OneElastic", name := "tie", desc := "(II)I" } : Jvm.MethodName)) ∈ lw_all := lw_g (lw_at lw_m3 235 rfl) rfl
theorem q795 : (Jvm.Cond.methodLink "OneElasticLaw" (101 : Nat) ({ cls := "OneElastic", name := "when", desc := "()I" } : Jvm.MethodName)) ∈ lw_all := lw_g (lw_at lw_m4 6 rfl) rfl
theorem q799 : (Jvm.Cond.methodLink "OneElasticLaw" (105 : Nat) ({ cls := "OneElastic", name := "odds", desc := "(II)I" } : Jvm.MethodName)) ∈ lw_all := lw_g (lw_at lw_m4 10 rfl) rfl
theorem q804 : (Jvm.Cond.methodLink "OneElasticLaw" (109 : Nat) ({ cls := "OneElastic", name := "war", desc := "(II)I" } : Jvm.MethodName)) ∈ lw_all := lw_g (lw_at lw_m4 15 rfl) rfl
theorem q824 : (Jvm.Cond.methodLink "OneElasticLaw" (113 : Nat) ({ cls := "OneElastic", name := "image", desc := "()I" } : Jvm.MethodName)) ∈ lw_all := lw_g (lw_at lw_m4 35 rfl) rfl
theorem q879 : (Jvm.Cond.methodLink "OneElasticLaw" (117 : Nat) ({ cls := "OneElastic", name := "restore", desc := "()I" } : Jvm.MethodName)) ∈ lw_all := lw_g (lw_at lw_m4 90 rfl) rfl
theorem q883 : (Jvm.Cond.methodLink "OneElasticLaw" (134 : Nat) ({ cls := "OneElastic", name := "sheet", desc := "(III)I" } : Jvm.MethodName)) ∈ lw_all := lw_g (lw_at lw_m4 94 rfl) rfl
theorem q926 : (Jvm.Cond.methodLink "OneElasticLaw" (139 : Nat) ({ cls := "OneElastic", name := "drop", desc := "(I)I" } : Jvm.MethodName)) ∈ lw_all := lw_g (lw_at lw_m4 137 rfl) rfl
theorem q937 : (Jvm.Cond.methodLink "OneElasticLaw" (145 : Nat) ({ cls := "OneElastic", name := "item", desc := "(IIIJ)I" } : Jvm.MethodName)) ∈ lw_all := lw_g (lw_at lw_m4 148 rfl) rfl
theorem q979 : (Jvm.Cond.methodLink "OneElasticLaw" (121 : Nat) ({ cls := "OneElastic", name := "moved", desc := "(IIIII)I" } : Jvm.MethodName)) ∈ lw_all := lw_g (lw_at lw_m4 190 rfl) rfl
theorem q1008 : (Jvm.Cond.methodLink "OneElasticLaw" (125 : Nat) ({ cls := "OneElastic", name := "gives", desc := "(IIIII)I" } : Jvm.MethodName)) ∈ lw_all := lw_g (lw_at lw_m4 219 rfl) rfl
theorem q1016 : (Jvm.Cond.methodLink "OneElasticLaw" (129 : Nat) ({ cls := "OneElastic", name := "log", desc := "(IIII)I" } : Jvm.MethodName)) ∈ lw_all := lw_g (lw_at lw_m4 227 rfl) rfl
theorem q1020 : (Jvm.Cond.methodLink "OneElasticLaw" (150 : Nat) ({ cls := "OneElastic", name := "copy", desc := "(IIIII)I" } : Jvm.MethodName)) ∈ lw_all := lw_g (lw_at lw_m4 231 rfl) rfl
theorem q1040 : (Jvm.Cond.classLink "OneElasticLaw" (7 : Nat) "OneElastic") ∈ lw_all := lw_g (lw_at lw_m5 11 rfl) rfl
theorem q1041 : (Jvm.Cond.methodLink "OneElasticLaw" (9 : Nat) ({ cls := "OneElastic", name := "<init>", desc := "()V" } : Jvm.MethodName)) ∈ lw_all := lw_g (lw_at lw_m5 12 rfl) rfl
theorem q1160 : (Jvm.Cond.classLink "OneElasticLaw" (10 : Nat) "OneElasticModel") ∈ lw_all := lw_g (lw_at lw_m5 131 rfl) rfl
theorem q1162 : (Jvm.Cond.methodLink "OneElasticLaw" (12 : Nat) ({ cls := "OneElasticModel", name := "<init>", desc := "()V" } : Jvm.MethodName)) ∈ lw_all := lw_g (lw_at lw_m5 133 rfl) rfl
theorem q1230 : (Jvm.Cond.methodLink "OneElasticLaw" (43 : Nat) ({ cls := "OneElasticModel", name := "type", desc := "(I)I" } : Jvm.MethodName)) ∈ lw_all := lw_g (lw_at lw_m5 201 rfl) rfl
theorem q1239 : (Jvm.Cond.methodLink "OneElasticLaw" (48 : Nat) ({ cls := "OneElasticModel", name := "street", desc := "()I" } : Jvm.MethodName)) ∈ lw_all := lw_g (lw_at lw_m5 210 rfl) rfl
theorem q1328 : (Jvm.Cond.methodLink "OneElasticLaw" (17 : Nat) ({ cls := "OneElasticModel", name := "person", desc := "(IIIII)I" } : Jvm.MethodName)) ∈ lw_all := lw_g (lw_at lw_m6 59 rfl) rfl
theorem q1336 : (Jvm.Cond.methodLink "OneElasticLaw" (22 : Nat) ({ cls := "OneElasticModel", name := "of", desc := "(II)I" } : Jvm.MethodName)) ∈ lw_all := lw_g (lw_at lw_m6 67 rfl) rfl
theorem q1348 : (Jvm.Cond.methodLink "OneElasticLaw" (26 : Nat) ({ cls := "OneElasticModel", name := "place", desc := "(II)I" } : Jvm.MethodName)) ∈ lw_all := lw_g (lw_at lw_m6 79 rfl) rfl
theorem q1366 : (Jvm.Cond.methodLink "OneElasticLaw" (30 : Nat) ({ cls := "OneElasticModel", name := "pulled", desc := "(II)I" } : Jvm.MethodName)) ∈ lw_all := lw_g (lw_at lw_m6 97 rfl) rfl
theorem q1370 : (Jvm.Cond.methodLink "OneElasticLaw" (34 : Nat) ({ cls := "OneElasticModel", name := "pull", desc := "(II)I" } : Jvm.MethodName)) ∈ lw_all := lw_g (lw_at lw_m6 101 rfl) rfl
theorem q1378 : (Jvm.Cond.methodLink "OneElasticLaw" (38 : Nat) ({ cls := "OneElasticModel", name := "seam", desc := "(II)I" } : Jvm.MethodName)) ∈ lw_all := lw_g (lw_at lw_m6 109 rfl) rfl
theorem q1383 : (Jvm.Cond.methodLink "OneElasticLaw" (52 : Nat) ({ cls := "OneElasticModel", name := "count", desc := "(I)I" } : Jvm.MethodName)) ∈ lw_all := lw_g (lw_at lw_m6 114 rfl) rfl
theorem q1407 : (Jvm.Cond.methodLink "OneElasticLaw" (56 : Nat) ({ cls := "OneElasticModel", name := "go", desc := "(II)I" } : Jvm.MethodName)) ∈ lw_all := lw_g (lw_at lw_m6 138 rfl) rfl
theorem q1420 : (Jvm.Cond.methodLink "OneElasticLaw" (60 : Nat) ({ cls := "OneElasticModel", name := "let", desc := "(I)I" } : Jvm.MethodName)) ∈ lw_all := lw_g (lw_at lw_m6 151 rfl) rfl
theorem q1424 : (Jvm.Cond.methodLink "OneElasticLaw" (64 : Nat) ({ cls := "OneElasticModel", name := "hold", desc := "(I)I" } : Jvm.MethodName)) ∈ lw_all := lw_g (lw_at lw_m6 155 rfl) rfl
theorem q1432 : (Jvm.Cond.methodLink "OneElasticLaw" (68 : Nat) ({ cls := "OneElasticModel", name := "sew", desc := "(I)I" } : Jvm.MethodName)) ∈ lw_all := lw_g (lw_at lw_m6 163 rfl) rfl
theorem q1436 : (Jvm.Cond.methodLink "OneElasticLaw" (72 : Nat) ({ cls := "OneElasticModel", name := "bears", desc := "(I)I" } : Jvm.MethodName)) ∈ lw_all := lw_g (lw_at lw_m6 167 rfl) rfl
theorem q1441 : (Jvm.Cond.methodLink "OneElasticLaw" (76 : Nat) ({ cls := "OneElasticModel", name := "hours", desc := "(I)I" } : Jvm.MethodName)) ∈ lw_all := lw_g (lw_at lw_m6 172 rfl) rfl
theorem q1450 : (Jvm.Cond.methodLink "OneElasticLaw" (80 : Nat) ({ cls := "OneElasticModel", name := "springs", desc := "(I)I" } : Jvm.MethodName)) ∈ lw_all := lw_g (lw_at lw_m6 181 rfl) rfl
theorem q1465 : (Jvm.Cond.methodLink "OneElasticLaw" (84 : Nat) ({ cls := "OneElasticModel", name := "undo", desc := "()I" } : Jvm.MethodName)) ∈ lw_all := lw_g (lw_at lw_m6 196 rfl) rfl
theorem q1469 : (Jvm.Cond.methodLink "OneElasticLaw" (88 : Nat) ({ cls := "OneElasticModel", name := "seed", desc := "(I)I" } : Jvm.MethodName)) ∈ lw_all := lw_g (lw_at lw_m6 200 rfl) rfl
theorem q1473 : (Jvm.Cond.methodLink "OneElasticLaw" (92 : Nat) ({ cls := "OneElasticModel", name := "far", desc := "(II)I" } : Jvm.MethodName)) ∈ lw_all := lw_g (lw_at lw_m6 204 rfl) rfl
theorem q1481 : (Jvm.Cond.methodLink "OneElasticLaw" (96 : Nat) ({ cls := "OneElasticModel", name := "fall", desc := "(II)I" } : Jvm.MethodName)) ∈ lw_all := lw_g (lw_at lw_m6 212 rfl) rfl
theorem q1485 : (Jvm.Cond.methodLink "OneElasticLaw" (100 : Nat) ({ cls := "OneElasticModel", name := "tie", desc := "(II)I" } : Jvm.MethodName)) ∈ lw_all := lw_g (lw_at lw_m6 216 rfl) rfl
theorem q1489 : (Jvm.Cond.methodLink "OneElasticLaw" (104 : Nat) ({ cls := "OneElasticModel", name := "when", desc := "()I" } : Jvm.MethodName)) ∈ lw_all := lw_g (lw_at lw_m6 220 rfl) rfl
theorem q1493 : (Jvm.Cond.methodLink "OneElasticLaw" (108 : Nat) ({ cls := "OneElasticModel", name := "odds", desc := "(II)I" } : Jvm.MethodName)) ∈ lw_all := lw_g (lw_at lw_m6 224 rfl) rfl
theorem q1501 : (Jvm.Cond.methodLink "OneElasticLaw" (112 : Nat) ({ cls := "OneElasticModel", name := "war", desc := "(II)I" } : Jvm.MethodName)) ∈ lw_all := lw_g (lw_at lw_m6 232 rfl) rfl
theorem q1522 : (Jvm.Cond.methodLink "OneElasticLaw" (116 : Nat) ({ cls := "OneElasticModel", name := "image", desc := "()I" } : Jvm.MethodName)) ∈ lw_all := lw_g (lw_at lw_m7 13 rfl) rfl
theorem q1526 : (Jvm.Cond.methodLink "OneElasticLaw" (120 : Nat) ({ cls := "OneElasticModel", name := "restore", desc := "()I" } : Jvm.MethodName)) ∈ lw_all := lw_g (lw_at lw_m7 17 rfl) rfl
theorem q1530 : (Jvm.Cond.methodLink "OneElasticLaw" (124 : Nat) ({ cls := "OneElasticModel", name := "moved", desc := "(IIIII)I" } : Jvm.MethodName)) ∈ lw_all := lw_g (lw_at lw_m7 21 rfl) rfl
theorem q1553 : (Jvm.Cond.methodLink "OneElasticLaw" (128 : Nat) ({ cls := "OneElasticModel", name := "gives", desc := "(IIIII)I" } : Jvm.MethodName)) ∈ lw_all := lw_g (lw_at lw_m7 44 rfl) rfl
theorem q1561 : (Jvm.Cond.methodLink "OneElasticLaw" (133 : Nat) ({ cls := "OneElasticModel", name := "log", desc := "(IIII)I" } : Jvm.MethodName)) ∈ lw_all := lw_g (lw_at lw_m7 52 rfl) rfl
theorem q1565 : (Jvm.Cond.methodLink "OneElasticLaw" (138 : Nat) ({ cls := "OneElasticModel", name := "sheet", desc := "(III)I" } : Jvm.MethodName)) ∈ lw_all := lw_g (lw_at lw_m7 56 rfl) rfl
theorem q1569 : (Jvm.Cond.methodLink "OneElasticLaw" (142 : Nat) ({ cls := "OneElasticModel", name := "drop", desc := "(I)I" } : Jvm.MethodName)) ∈ lw_all := lw_g (lw_at lw_m7 60 rfl) rfl
theorem q1573 : (Jvm.Cond.methodLink "OneElasticLaw" (149 : Nat) ({ cls := "OneElasticModel", name := "item", desc := "(IIIJ)I" } : Jvm.MethodName)) ∈ lw_all := lw_g (lw_at lw_m7 64 rfl) rfl
theorem q1580 : (Jvm.Cond.methodLink "OneElasticLaw" (153 : Nat) ({ cls := "OneElasticModel", name := "copy", desc := "(IIIII)I" } : Jvm.MethodName)) ∈ lw_all := lw_g (lw_at lw_m7 71 rfl) rfl
theorem q1584 : (Jvm.Cond.constantLong "OneElasticLaw" (143 : Nat) (4294967295 : Int64)) ∈ lw_all := lw_g (lw_at lw_m7 75 rfl) rfl

theorem q173 : (Jvm.Cond.interfaceMethod "OneElastic$Person" "OneElastic$Person" "out" "(III)I") ∈ lw_tbl := lw_at lw_m1 104 rfl
set_option maxRecDepth 100000
theorem q174 : (Jvm.Cond.declares ({ cls := "OneElastic$Person", name := "out", desc := "(III)I" } : Jvm.MethodName)) ∈ lw_tbl := lw_at lw_m1 105 rfl
theorem q1590 : (Jvm.Cond.castable "OneElastic$Person" "java/lang/Object") ∈ lw_tbl := lw_at lw_m7 81 rfl

theorem q1614 : (Jvm.Cond.castable "[B" "java/lang/Object") ∈ lw_tbl := lw_at lw_m7 105 rfl
set_option maxRecDepth 100000

theorem q1615 : (Jvm.Cond.castable "[I" "java/lang/Object") ∈ lw_tbl := lw_at lw_m7 106 rfl
set_option maxRecDepth 100000

theorem q1618 : (Jvm.Cond.castable "[J" "java/lang/Object") ∈ lw_tbl := lw_at lw_m7 109 rfl
set_option maxRecDepth 100000

theorem q1620 : (Jvm.Cond.castable "[LOneElastic$Held;" "java/lang/Object") ∈ lw_tbl := lw_at lw_m7 111 rfl
set_option maxRecDepth 100000

theorem q1619 : (Jvm.Cond.castable "[LOneElastic$Person;" "java/lang/Object") ∈ lw_tbl := lw_at lw_m7 110 rfl
set_option maxRecDepth 100000

theorem q1611 : (Jvm.Cond.sameMethod "[Ljava/lang/Object;" "java/lang/Object" "getClass" "()Ljava/lang/Class;") ∈ lw_all := lw_g (lw_at lw_m7 102 rfl) rfl
set_option maxRecDepth 100000
theorem q1612 : (Jvm.Cond.selects "[Ljava/lang/Object;" ({ cls := "java/lang/Object", name := "getClass", desc := "()Ljava/lang/Class;" } : Jvm.MethodName) ({ cls := "java/lang/Object", name := "getClass", desc := "()Ljava/lang/Class;" } : Jvm.MethodName)) ∈ lw_all := lw_g (lw_at lw_m7 103 rfl) rfl
theorem q1616 : (Jvm.Cond.castable "[Ljava/lang/Object;" "java/lang/Object") ∈ lw_tbl := lw_at lw_m7 107 rfl

theorem q1617 : (Jvm.Cond.castable "[S" "java/lang/Object") ∈ lw_tbl := lw_at lw_m7 108 rfl
set_option maxRecDepth 100000

theorem q91 : (Jvm.Cond.initialized "java/lang/System") ∈ lw_all := lw_g (lw_at lw_m1 22 rfl) rfl
set_option maxRecDepth 100000
theorem q611 : (Jvm.Cond.static ({ cls := "java/lang/System", name := "arraycopy", desc := "(Ljava/lang/Object;ILjava/lang/Object;II)V" } : Jvm.MethodName)) ∈ lw_all := lw_g (lw_at lw_m3 62 rfl) rfl
theorem q612 : (Jvm.Cond.native ({ cls := "java/lang/System", name := "arraycopy", desc := "(Ljava/lang/Object;ILjava/lang/Object;II)V" } : Jvm.MethodName)) ∈ lw_all := lw_g (lw_at lw_m3 63 rfl) rfl

theorem q858 : (Jvm.Cond.interfaceMethod "java/util/Iterator" "java/util/Iterator" "hasNext" "()Z") ∈ lw_tbl := lw_at lw_m4 69 rfl
set_option maxRecDepth 100000
theorem q859 : (Jvm.Cond.declares ({ cls := "java/util/Iterator", name := "hasNext", desc := "()Z" } : Jvm.MethodName)) ∈ lw_tbl := lw_at lw_m4 70 rfl
theorem q868 : (Jvm.Cond.interfaceMethod "java/util/Iterator" "java/util/Iterator" "next" "()Ljava/lang/Object;") ∈ lw_tbl := lw_at lw_m4 79 rfl
theorem q869 : (Jvm.Cond.declares ({ cls := "java/util/Iterator", name := "next", desc := "()Ljava/lang/Object;" } : Jvm.MethodName)) ∈ lw_tbl := lw_at lw_m4 80 rfl

theorem q520 : (Jvm.Cond.arrayClass Jvm.ClassFile.FieldType.byte) ∈ lw_all := lw_g (lw_at lw_m2 211 rfl) rfl
set_option maxRecDepth 100000
theorem q605 : (Jvm.Cond.arrayClass Jvm.ClassFile.FieldType.int) ∈ lw_all := lw_g (lw_at lw_m3 56 rfl) rfl
theorem q681 : (Jvm.Cond.arrayOver (Jvm.ClassFile.FieldType.object "java/lang/Object")) ∈ lw_tbl := lw_at lw_m3 132 rfl
theorem q924 : (Jvm.Cond.arrayClass Jvm.ClassFile.FieldType.short) ∈ lw_all := lw_g (lw_at lw_m4 135 rfl) rfl
theorem q925 : (Jvm.Cond.arrayClass Jvm.ClassFile.FieldType.long) ∈ lw_all := lw_g (lw_at lw_m4 136 rfl) rfl
theorem q1046 : (Jvm.Cond.arrayOver (Jvm.ClassFile.FieldType.object "OneElastic$Person")) ∈ lw_tbl := lw_at lw_m5 17 rfl
theorem q1100 : (Jvm.Cond.arrayOver (Jvm.ClassFile.FieldType.object "OneElastic$Held")) ∈ lw_tbl := lw_at lw_m5 71 rfl

/-! OneElastic$Plain -/
set_option maxRecDepth 100000
def RX1 : String := "OneElastic$Plain"
abbrev cX1_out : ByteArray := prog_7_method_2_code
def yX1_out : MethodName := ⟨RX1, "out", "(III)I"⟩
theorem dX1_out_0 : decode cX1_out 0 = .ok (.iload_n 1, 1) := by decide +kernel
theorem dX1_out_1 : decode cX1_out 1 = .ok (.ireturn, 1) := by decide +kernel
abbrev cX1_init : ByteArray := prog_7_method_1_code
def yX1_init : MethodName := ⟨RX1, "<init>", "()V"⟩
theorem dX1_init_0 : decode cX1_init 0 = .ok (.aload_n 0, 1) := by decide +kernel
theorem dX1_init_1 : decode cX1_init 1 = .ok (.invokespecial 1, 3) := by decide +kernel
theorem dX1_init_4 : decode cX1_init 4 = .ok (.return_, 1) := by decide +kernel
theorem q71 : (Jvm.Cond.initialized "OneElastic$Plain") ∈ lw_all := lw_g (lw_at lw_m1 2 rfl) rfl
theorem q187 : (Jvm.Cond.instanceMethod ({ cls := "OneElastic$Plain", name := "out", desc := "(III)I" } : Jvm.MethodName)) ∈ lw_all := lw_g (lw_at lw_m1 118 rfl) rfl
theorem q188 : (Jvm.Cond.code ({ cls := "OneElastic$Plain", name := "out", desc := "(III)I" } : Jvm.MethodName) prog_7_method_2_code (4 : Nat) (Option.some Jvm.ClassFile.FieldType.int)) ∈ lw_all := lw_g (lw_at lw_m1 119 rfl) rfl
theorem q195 : (Jvm.Cond.castable "OneElastic$Plain" "OneElastic$Person") ∈ lw_tbl := lw_at lw_m1 126 rfl
theorem q196 : (Jvm.Cond.selects "OneElastic$Plain" ({ cls := "OneElastic$Person", name := "out", desc := "(III)I" } : Jvm.MethodName) ({ cls := "OneElastic$Plain", name := "out", desc := "(III)I" } : Jvm.MethodName)) ∈ lw_all := lw_g (lw_at lw_m1 127 rfl) rfl
theorem q197 : (Jvm.Cond.unhidden "OneElastic$Plain" "out" "(III)I") ∈ lw_tbl := lw_at lw_m1 128 rfl
theorem q198 : (Jvm.Cond.publicMethod ({ cls := "OneElastic$Plain", name := "out", desc := "(III)I" } : Jvm.MethodName)) ∈ lw_tbl := lw_at lw_m1 129 rfl
theorem q663 : (Jvm.Cond.selects "OneElastic$Plain" ({ cls := "java/lang/Object", name := "getClass", desc := "()Ljava/lang/Class;" } : Jvm.MethodName) ({ cls := "java/lang/Object", name := "getClass", desc := "()Ljava/lang/Class;" } : Jvm.MethodName)) ∈ lw_all := lw_g (lw_at lw_m3 114 rfl) rfl
theorem q1048 : (Jvm.Cond.instantiable "OneElastic$Plain" (0 : Nat)) ∈ lw_all := lw_g (lw_at lw_m5 19 rfl) rfl
theorem q1050 : (Jvm.Cond.instanceMethod ({ cls := "OneElastic$Plain", name := "<init>", desc := "()V" } : Jvm.MethodName)) ∈ lw_all := lw_g (lw_at lw_m5 21 rfl) rfl
theorem q1051 : (Jvm.Cond.code ({ cls := "OneElastic$Plain", name := "<init>", desc := "()V" } : Jvm.MethodName) prog_7_method_1_code (1 : Nat) (Option.none : Option Jvm.ClassFile.FieldType)) ∈ lw_all := lw_g (lw_at lw_m5 22 rfl) rfl
theorem q1052 : (Jvm.Cond.methodLink "OneElastic$Plain" (1 : Nat) ({ cls := "java/lang/Object", name := "<init>", desc := "()V" } : Jvm.MethodName)) ∈ lw_all := lw_g (lw_at lw_m5 23 rfl) rfl
theorem q1053 : (Jvm.Cond.superclass "OneElastic$Plain" "java/lang/Object") ∈ lw_all := lw_g (lw_at lw_m5 24 rfl) rfl
theorem q1586 : (Jvm.Cond.sameMethod "OneElastic$Plain" "OneElastic$Plain" "out" "(III)I") ∈ lw_all := lw_g (lw_at lw_m7 77 rfl) rfl
theorem q1593 : (Jvm.Cond.castable "OneElastic$Plain" "java/lang/Object") ∈ lw_tbl := lw_at lw_m7 84 rfl

/-! OneElastic$Stout -/
set_option maxRecDepth 100000
def RX2 : String := "OneElastic$Stout"
abbrev cX2_out : ByteArray := prog_9_method_2_code
def yX2_out : MethodName := ⟨RX2, "out", "(III)I"⟩
def dkwX2_out_1 : List UInt8 := [167, 0, 8, 21, 4, 21, 4, 96, 172]
abbrev dktX2_out_1 : List UInt8 := dkwX2_out_1 ++ []
def dkwX2_out_0 : List UInt8 := [42, 27, 28, 29, 183, 0, 7, 54, 4, 28, 16, 7, 159, 0, 9, 28, 16, 8, 160, 0, 8, 21, 4]
abbrev dktX2_out_0 : List UInt8 := dkwX2_out_0 ++ dktX2_out_1
theorem dksX2_out_0 : cX2_out.data.toList.drop 0 = dktX2_out_0 := by decide +kernel
theorem dksX2_out_1 : cX2_out.data.toList.drop 23 = dktX2_out_1 := dk_seg dksX2_out_0 23 rfl rfl
theorem dX2_out_0 : decode cX2_out 0 = .ok (.aload_n 0, 1) := dk_42 (dk_at dksX2_out_0 0 rfl rfl)
theorem dX2_out_1 : decode cX2_out 1 = .ok (.iload_n 1, 1) := dk_27 (dk_at dksX2_out_0 1 rfl rfl)
theorem dX2_out_2 : decode cX2_out 2 = .ok (.iload_n 2, 1) := dk_28 (dk_at dksX2_out_0 2 rfl rfl)
theorem dX2_out_3 : decode cX2_out 3 = .ok (.iload_n 3, 1) := dk_29 (dk_at dksX2_out_0 3 rfl rfl)
theorem dX2_out_4 : decode cX2_out 4 = .ok (.invokespecial 7, 3) := dk_183 0 7 (dk_at dksX2_out_0 4 rfl rfl)
theorem dX2_out_7 : decode cX2_out 7 = .ok (.istore 4, 2) := dk_54 4 (dk_at dksX2_out_0 7 rfl rfl)
theorem dX2_out_9 : decode cX2_out 9 = .ok (.iload_n 2, 1) := dk_28 (dk_at dksX2_out_0 9 rfl rfl)
theorem dX2_out_10 : decode cX2_out 10 = .ok (.bipush 7, 2) := dk_16 7 (dk_at dksX2_out_0 10 rfl rfl)
theorem dX2_out_12 : decode cX2_out 12 = .ok (.if_icmp .eq 9, 3) := dk_159 0 9 (dk_at dksX2_out_0 12 rfl rfl)
theorem dX2_out_15 : decode cX2_out 15 = .ok (.iload_n 2, 1) := dk_28 (dk_at dksX2_out_0 15 rfl rfl)
theorem dX2_out_16 : decode cX2_out 16 = .ok (.bipush 8, 2) := dk_16 8 (dk_at dksX2_out_0 16 rfl rfl)
theorem dX2_out_18 : decode cX2_out 18 = .ok (.if_icmp .ne 8, 3) := dk_160 0 8 (dk_at dksX2_out_0 18 rfl rfl)
theorem dX2_out_21 : decode cX2_out 21 = .ok (.iload 4, 2) := dk_21 4 (dk_at dksX2_out_0 21 rfl rfl)
theorem dX2_out_23 : decode cX2_out 23 = .ok (.goto 8, 3) := dk_167 0 8 (dk_at dksX2_out_1 0 rfl rfl)
theorem dX2_out_26 : decode cX2_out 26 = .ok (.iload 4, 2) := dk_21 4 (dk_at dksX2_out_1 3 rfl rfl)
theorem dX2_out_28 : decode cX2_out 28 = .ok (.iload 4, 2) := dk_21 4 (dk_at dksX2_out_1 5 rfl rfl)
theorem dX2_out_30 : decode cX2_out 30 = .ok (.iadd, 1) := dk_96 (dk_at dksX2_out_1 7 rfl rfl)
theorem dX2_out_31 : decode cX2_out 31 = .ok (.ireturn, 1) := dk_172 (dk_at dksX2_out_1 8 rfl rfl)
abbrev cX2_init : ByteArray := prog_9_method_1_code
def yX2_init : MethodName := ⟨RX2, "<init>", "()V"⟩
theorem dX2_init_0 : decode cX2_init 0 = .ok (.aload_n 0, 1) := by decide +kernel
theorem dX2_init_1 : decode cX2_init 1 = .ok (.invokespecial 1, 3) := by decide +kernel
theorem dX2_init_4 : decode cX2_init 4 = .ok (.return_, 1) := by decide +kernel
theorem q72 : (Jvm.Cond.initialized "OneElastic$Stout") ∈ lw_all := lw_g (lw_at lw_m1 3 rfl) rfl
theorem q183 : (Jvm.Cond.instanceMethod ({ cls := "OneElastic$Stout", name := "out", desc := "(III)I" } : Jvm.MethodName)) ∈ lw_all := lw_g (lw_at lw_m1 114 rfl) rfl
theorem q184 : (Jvm.Cond.code ({ cls := "OneElastic$Stout", name := "out", desc := "(III)I" } : Jvm.MethodName) prog_9_method_2_code (5 : Nat) (Option.some Jvm.ClassFile.FieldType.int)) ∈ lw_all := lw_g (lw_at lw_m1 115 rfl) rfl
theorem q185 : (Jvm.Cond.methodLink "OneElastic$Stout" (7 : Nat) ({ cls := "OneElastic$Plain", name := "out", desc := "(III)I" } : Jvm.MethodName)) ∈ lw_all := lw_g (lw_at lw_m1 116 rfl) rfl
theorem q186 : (Jvm.Cond.superclass "OneElastic$Stout" "OneElastic$Plain") ∈ lw_all := lw_g (lw_at lw_m1 117 rfl) rfl
theorem q210 : (Jvm.Cond.castable "OneElastic$Stout" "OneElastic$Person") ∈ lw_tbl := lw_at lw_m1 141 rfl
theorem q211 : (Jvm.Cond.selects "OneElastic$Stout" ({ cls := "OneElastic$Person", name := "out", desc := "(III)I" } : Jvm.MethodName) ({ cls := "OneElastic$Stout", name := "out", desc := "(III)I" } : Jvm.MethodName)) ∈ lw_all := lw_g (lw_at lw_m1 142 rfl) rfl
theorem q212 : (Jvm.Cond.unhidden "OneElastic$Stout" "out" "(III)I") ∈ lw_tbl := lw_at lw_m1 143 rfl
theorem q213 : (Jvm.Cond.publicMethod ({ cls := "OneElastic$Stout", name := "out", desc := "(III)I" } : Jvm.MethodName)) ∈ lw_tbl := lw_at lw_m1 144 rfl
theorem q665 : (Jvm.Cond.selects "OneElastic$Stout" ({ cls := "java/lang/Object", name := "getClass", desc := "()Ljava/lang/Class;" } : Jvm.MethodName) ({ cls := "java/lang/Object", name := "getClass", desc := "()Ljava/lang/Class;" } : Jvm.MethodName)) ∈ lw_all := lw_g (lw_at lw_m3 116 rfl) rfl
theorem q1055 : (Jvm.Cond.instantiable "OneElastic$Stout" (0 : Nat)) ∈ lw_all := lw_g (lw_at lw_m5 26 rfl) rfl
theorem q1057 : (Jvm.Cond.instanceMethod ({ cls := "OneElastic$Stout", name := "<init>", desc := "()V" } : Jvm.MethodName)) ∈ lw_all := lw_g (lw_at lw_m5 28 rfl) rfl
theorem q1058 : (Jvm.Cond.code ({ cls := "OneElastic$Stout", name := "<init>", desc := "()V" } : Jvm.MethodName) prog_9_method_1_code (1 : Nat) (Option.none : Option Jvm.ClassFile.FieldType)) ∈ lw_all := lw_g (lw_at lw_m5 29 rfl) rfl
theorem q1059 : (Jvm.Cond.methodLinkNest "OneElastic$Stout" (1 : Nat) ({ cls := "OneElastic$Plain", name := "<init>", desc := "()V" } : Jvm.MethodName) "OneElastic") ∈ lw_tbl := lw_at lw_m5 30 rfl
theorem q1585 : (Jvm.Cond.sameMethod "OneElastic$Stout" "OneElastic$Stout" "out" "(III)I") ∈ lw_all := lw_g (lw_at lw_m7 76 rfl) rfl
theorem q1594 : (Jvm.Cond.castable "OneElastic$Stout" "java/lang/Object") ∈ lw_tbl := lw_at lw_m7 85 rfl

/-! OneElastic$Parson -/
set_option maxRecDepth 100000
def RX3 : String := "OneElastic$Parson"
abbrev cX3_out : ByteArray := prog_4_method_2_code
def yX3_out : MethodName := ⟨RX3, "out", "(III)I"⟩
def dkwX3_out_1 : List UInt8 := [21, 4, 5, 100, 184, 0, 21, 167, 0, 5, 21, 4, 172]
abbrev dktX3_out_1 : List UInt8 := dkwX3_out_1 ++ []
def dkwX3_out_0 : List UInt8 := [42, 27, 28, 29, 183, 0, 7, 54, 4, 28, 133, 20, 0, 11, 20, 0, 13, 184, 0, 15, 153, 0, 14, 3]
abbrev dktX3_out_0 : List UInt8 := dkwX3_out_0 ++ dktX3_out_1
theorem dksX3_out_0 : cX3_out.data.toList.drop 0 = dktX3_out_0 := by decide +kernel
theorem dksX3_out_1 : cX3_out.data.toList.drop 24 = dktX3_out_1 := dk_seg dksX3_out_0 24 rfl rfl
theorem dX3_out_0 : decode cX3_out 0 = .ok (.aload_n 0, 1) := dk_42 (dk_at dksX3_out_0 0 rfl rfl)
theorem dX3_out_1 : decode cX3_out 1 = .ok (.iload_n 1, 1) := dk_27 (dk_at dksX3_out_0 1 rfl rfl)
theorem dX3_out_2 : decode cX3_out 2 = .ok (.iload_n 2, 1) := dk_28 (dk_at dksX3_out_0 2 rfl rfl)
theorem dX3_out_3 : decode cX3_out 3 = .ok (.iload_n 3, 1) := dk_29 (dk_at dksX3_out_0 3 rfl rfl)
theorem dX3_out_4 : decode cX3_out 4 = .ok (.invokespecial 7, 3) := dk_183 0 7 (dk_at dksX3_out_0 4 rfl rfl)
theorem dX3_out_7 : decode cX3_out 7 = .ok (.istore 4, 2) := dk_54 4 (dk_at dksX3_out_0 7 rfl rfl)
theorem dX3_out_9 : decode cX3_out 9 = .ok (.iload_n 2, 1) := dk_28 (dk_at dksX3_out_0 9 rfl rfl)
theorem dX3_out_10 : decode cX3_out 10 = .ok (.i2l, 1) := dk_133 (dk_at dksX3_out_0 10 rfl rfl)
theorem dX3_out_11 : decode cX3_out 11 = .ok (.ldc2_w 11, 3) := dk_20 0 11 (dk_at dksX3_out_0 11 rfl rfl)
theorem dX3_out_14 : decode cX3_out 14 = .ok (.ldc2_w 13, 3) := dk_20 0 13 (dk_at dksX3_out_0 14 rfl rfl)
theorem dX3_out_17 : decode cX3_out 17 = .ok (.invokestatic 15, 3) := dk_184 0 15 (dk_at dksX3_out_0 17 rfl rfl)
theorem dX3_out_20 : decode cX3_out 20 = .ok (.ifCond .eq 14, 3) := dk_153 0 14 (dk_at dksX3_out_0 20 rfl rfl)
theorem dX3_out_23 : decode cX3_out 23 = .ok (.iconst 0, 1) := dk_3 (dk_at dksX3_out_0 23 rfl rfl)
theorem dX3_out_24 : decode cX3_out 24 = .ok (.iload 4, 2) := dk_21 4 (dk_at dksX3_out_1 0 rfl rfl)
theorem dX3_out_26 : decode cX3_out 26 = .ok (.iconst 2, 1) := dk_5 (dk_at dksX3_out_1 2 rfl rfl)
theorem dX3_out_27 : decode cX3_out 27 = .ok (.isub, 1) := dk_100 (dk_at dksX3_out_1 3 rfl rfl)
theorem dX3_out_28 : decode cX3_out 28 = .ok (.invokestatic 21, 3) := dk_184 0 21 (dk_at dksX3_out_1 4 rfl rfl)
theorem dX3_out_31 : decode cX3_out 31 = .ok (.goto 5, 3) := dk_167 0 5 (dk_at dksX3_out_1 7 rfl rfl)
theorem dX3_out_34 : decode cX3_out 34 = .ok (.iload 4, 2) := dk_21 4 (dk_at dksX3_out_1 10 rfl rfl)
theorem dX3_out_36 : decode cX3_out 36 = .ok (.ireturn, 1) := dk_172 (dk_at dksX3_out_1 12 rfl rfl)
abbrev cX3_init : ByteArray := prog_4_method_1_code
def yX3_init : MethodName := ⟨RX3, "<init>", "()V"⟩
theorem dX3_init_0 : decode cX3_init 0 = .ok (.aload_n 0, 1) := by decide +kernel
theorem dX3_init_1 : decode cX3_init 1 = .ok (.invokespecial 1, 3) := by decide +kernel
theorem dX3_init_4 : decode cX3_init 4 = .ok (.return_, 1) := by decide +kernel
theorem q73 : (Jvm.Cond.initialized "OneElastic$Parson") ∈ lw_all := lw_g (lw_at lw_m1 4 rfl) rfl
theorem q175 : (Jvm.Cond.castable "OneElastic$Parson" "OneElastic$Person") ∈ lw_tbl := lw_at lw_m1 106 rfl
theorem q176 : (Jvm.Cond.selects "OneElastic$Parson" ({ cls := "OneElastic$Person", name := "out", desc := "(III)I" } : Jvm.MethodName) ({ cls := "OneElastic$Parson", name := "out", desc := "(III)I" } : Jvm.MethodName)) ∈ lw_all := lw_g (lw_at lw_m1 107 rfl) rfl
theorem q177 : (Jvm.Cond.unhidden "OneElastic$Parson" "out" "(III)I") ∈ lw_tbl := lw_at lw_m1 108 rfl
theorem q178 : (Jvm.Cond.instanceMethod ({ cls := "OneElastic$Parson", name := "out", desc := "(III)I" } : Jvm.MethodName)) ∈ lw_all := lw_g (lw_at lw_m1 109 rfl) rfl
theorem q179 : (Jvm.Cond.publicMethod ({ cls := "OneElastic$Parson", name := "out", desc := "(III)I" } : Jvm.MethodName)) ∈ lw_tbl := lw_at lw_m1 110 rfl
theorem q180 : (Jvm.Cond.code ({ cls := "OneElastic$Parson", name := "out", desc := "(III)I" } : Jvm.MethodName) prog_4_method_2_code (5 : Nat) (Option.some Jvm.ClassFile.FieldType.int)) ∈ lw_all := lw_g (lw_at lw_m1 111 rfl) rfl
theorem q181 : (Jvm.Cond.methodLink "OneElastic$Parson" (7 : Nat) ({ cls := "OneElastic$Stout", name := "out", desc := "(III)I" } : Jvm.MethodName)) ∈ lw_all := lw_g (lw_at lw_m1 112 rfl) rfl
theorem q182 : (Jvm.Cond.superclass "OneElastic$Parson" "OneElastic$Stout") ∈ lw_all := lw_g (lw_at lw_m1 113 rfl) rfl
theorem q189 : (Jvm.Cond.constantLong "OneElastic$Parson" (11 : Nat) (9 : Int64)) ∈ lw_all := lw_g (lw_at lw_m1 120 rfl) rfl
theorem q190 : (Jvm.Cond.constantLong "OneElastic$Parson" (13 : Nat) (11 : Int64)) ∈ lw_all := lw_g (lw_at lw_m1 121 rfl) rfl
theorem q191 : (Jvm.Cond.methodLinkNest "OneElastic$Parson" (15 : Nat) ({ cls := "OneElastic", name := "in", desc := "(JJJ)Z" } : Jvm.MethodName) "OneElastic") ∈ lw_tbl := lw_at lw_m1 122 rfl
theorem q192 : (Jvm.Cond.methodLink "OneElastic$Parson" (21 : Nat) ({ cls := "java/lang/Math", name := "max", desc := "(II)I" } : Jvm.MethodName)) ∈ lw_all := lw_g (lw_at lw_m1 123 rfl) rfl
theorem q661 : (Jvm.Cond.selects "OneElastic$Parson" ({ cls := "java/lang/Object", name := "getClass", desc := "()Ljava/lang/Class;" } : Jvm.MethodName) ({ cls := "java/lang/Object", name := "getClass", desc := "()Ljava/lang/Class;" } : Jvm.MethodName)) ∈ lw_all := lw_g (lw_at lw_m3 112 rfl) rfl
theorem q1061 : (Jvm.Cond.instantiable "OneElastic$Parson" (0 : Nat)) ∈ lw_all := lw_g (lw_at lw_m5 32 rfl) rfl
theorem q1063 : (Jvm.Cond.instanceMethod ({ cls := "OneElastic$Parson", name := "<init>", desc := "()V" } : Jvm.MethodName)) ∈ lw_all := lw_g (lw_at lw_m5 34 rfl) rfl
theorem q1064 : (Jvm.Cond.code ({ cls := "OneElastic$Parson", name := "<init>", desc := "()V" } : Jvm.MethodName) prog_4_method_1_code (1 : Nat) (Option.none : Option Jvm.ClassFile.FieldType)) ∈ lw_all := lw_g (lw_at lw_m5 35 rfl) rfl
theorem q1065 : (Jvm.Cond.methodLinkNest "OneElastic$Parson" (1 : Nat) ({ cls := "OneElastic$Stout", name := "<init>", desc := "()V" } : Jvm.MethodName) "OneElastic") ∈ lw_tbl := lw_at lw_m5 36 rfl
theorem q1587 : (Jvm.Cond.sameMethod "OneElastic$Parson" "OneElastic$Parson" "out" "(III)I") ∈ lw_all := lw_g (lw_at lw_m7 78 rfl) rfl
theorem q1595 : (Jvm.Cond.castable "OneElastic$Parson" "java/lang/Object") ∈ lw_tbl := lw_at lw_m7 86 rfl

/-! OneElastic$Player -/
set_option maxRecDepth 100000
def RX4 : String := "OneElastic$Player"
abbrev cX4_out : ByteArray := prog_8_method_2_code
def yX4_out : MethodName := ⟨RX4, "out", "(III)I"⟩
def dkwX4_out_1 : List UInt8 := [183, 0, 17, 172]
abbrev dktX4_out_1 : List UInt8 := dkwX4_out_1 ++ []
def dkwX4_out_0 : List UInt8 := [28, 133, 20, 0, 7, 20, 0, 9, 184, 0, 11, 153, 0, 7, 3, 167, 0, 10, 42, 27, 28, 29]
abbrev dktX4_out_0 : List UInt8 := dkwX4_out_0 ++ dktX4_out_1
theorem dksX4_out_0 : cX4_out.data.toList.drop 0 = dktX4_out_0 := by decide +kernel
theorem dksX4_out_1 : cX4_out.data.toList.drop 22 = dktX4_out_1 := dk_seg dksX4_out_0 22 rfl rfl
theorem dX4_out_0 : decode cX4_out 0 = .ok (.iload_n 2, 1) := dk_28 (dk_at dksX4_out_0 0 rfl rfl)
theorem dX4_out_1 : decode cX4_out 1 = .ok (.i2l, 1) := dk_133 (dk_at dksX4_out_0 1 rfl rfl)
theorem dX4_out_2 : decode cX4_out 2 = .ok (.ldc2_w 7, 3) := dk_20 0 7 (dk_at dksX4_out_0 2 rfl rfl)
theorem dX4_out_5 : decode cX4_out 5 = .ok (.ldc2_w 9, 3) := dk_20 0 9 (dk_at dksX4_out_0 5 rfl rfl)
theorem dX4_out_8 : decode cX4_out 8 = .ok (.invokestatic 11, 3) := dk_184 0 11 (dk_at dksX4_out_0 8 rfl rfl)
theorem dX4_out_11 : decode cX4_out 11 = .ok (.ifCond .eq 7, 3) := dk_153 0 7 (dk_at dksX4_out_0 11 rfl rfl)
theorem dX4_out_14 : decode cX4_out 14 = .ok (.iconst 0, 1) := dk_3 (dk_at dksX4_out_0 14 rfl rfl)
theorem dX4_out_15 : decode cX4_out 15 = .ok (.goto 10, 3) := dk_167 0 10 (dk_at dksX4_out_0 15 rfl rfl)
theorem dX4_out_18 : decode cX4_out 18 = .ok (.aload_n 0, 1) := dk_42 (dk_at dksX4_out_0 18 rfl rfl)
theorem dX4_out_19 : decode cX4_out 19 = .ok (.iload_n 1, 1) := dk_27 (dk_at dksX4_out_0 19 rfl rfl)
theorem dX4_out_20 : decode cX4_out 20 = .ok (.iload_n 2, 1) := dk_28 (dk_at dksX4_out_0 20 rfl rfl)
theorem dX4_out_21 : decode cX4_out 21 = .ok (.iload_n 3, 1) := dk_29 (dk_at dksX4_out_0 21 rfl rfl)
theorem dX4_out_22 : decode cX4_out 22 = .ok (.invokespecial 17, 3) := dk_183 0 17 (dk_at dksX4_out_1 0 rfl rfl)
theorem dX4_out_25 : decode cX4_out 25 = .ok (.ireturn, 1) := dk_172 (dk_at dksX4_out_1 3 rfl rfl)
abbrev cX4_init : ByteArray := prog_8_method_1_code
def yX4_init : MethodName := ⟨RX4, "<init>", "()V"⟩
theorem dX4_init_0 : decode cX4_init 0 = .ok (.aload_n 0, 1) := by decide +kernel
theorem dX4_init_1 : decode cX4_init 1 = .ok (.invokespecial 1, 3) := by decide +kernel
theorem dX4_init_4 : decode cX4_init 4 = .ok (.return_, 1) := by decide +kernel
theorem q74 : (Jvm.Cond.initialized "OneElastic$Player") ∈ lw_all := lw_g (lw_at lw_m1 5 rfl) rfl
theorem q199 : (Jvm.Cond.castable "OneElastic$Player" "OneElastic$Person") ∈ lw_tbl := lw_at lw_m1 130 rfl
theorem q200 : (Jvm.Cond.selects "OneElastic$Player" ({ cls := "OneElastic$Person", name := "out", desc := "(III)I" } : Jvm.MethodName) ({ cls := "OneElastic$Player", name := "out", desc := "(III)I" } : Jvm.MethodName)) ∈ lw_all := lw_g (lw_at lw_m1 131 rfl) rfl
theorem q201 : (Jvm.Cond.unhidden "OneElastic$Player" "out" "(III)I") ∈ lw_tbl := lw_at lw_m1 132 rfl
theorem q202 : (Jvm.Cond.instanceMethod ({ cls := "OneElastic$Player", name := "out", desc := "(III)I" } : Jvm.MethodName)) ∈ lw_all := lw_g (lw_at lw_m1 133 rfl) rfl
theorem q203 : (Jvm.Cond.publicMethod ({ cls := "OneElastic$Player", name := "out", desc := "(III)I" } : Jvm.MethodName)) ∈ lw_tbl := lw_at lw_m1 134 rfl
theorem q204 : (Jvm.Cond.code ({ cls := "OneElastic$Player", name := "out", desc := "(III)I" } : Jvm.MethodName) prog_8_method_2_code (4 : Nat) (Option.some Jvm.ClassFile.FieldType.int)) ∈ lw_all := lw_g (lw_at lw_m1 135 rfl) rfl
theorem q205 : (Jvm.Cond.constantLong "OneElastic$Player" (7 : Nat) (15 : Int64)) ∈ lw_all := lw_g (lw_at lw_m1 136 rfl) rfl
theorem q206 : (Jvm.Cond.constantLong "OneElastic$Player" (9 : Nat) (16 : Int64)) ∈ lw_all := lw_g (lw_at lw_m1 137 rfl) rfl
theorem q207 : (Jvm.Cond.methodLinkNest "OneElastic$Player" (11 : Nat) ({ cls := "OneElastic", name := "in", desc := "(JJJ)Z" } : Jvm.MethodName) "OneElastic") ∈ lw_tbl := lw_at lw_m1 138 rfl
theorem q208 : (Jvm.Cond.methodLink "OneElastic$Player" (17 : Nat) ({ cls := "OneElastic$Parson", name := "out", desc := "(III)I" } : Jvm.MethodName)) ∈ lw_all := lw_g (lw_at lw_m1 139 rfl) rfl
theorem q209 : (Jvm.Cond.superclass "OneElastic$Player" "OneElastic$Parson") ∈ lw_all := lw_g (lw_at lw_m1 140 rfl) rfl
theorem q664 : (Jvm.Cond.selects "OneElastic$Player" ({ cls := "java/lang/Object", name := "getClass", desc := "()Ljava/lang/Class;" } : Jvm.MethodName) ({ cls := "java/lang/Object", name := "getClass", desc := "()Ljava/lang/Class;" } : Jvm.MethodName)) ∈ lw_all := lw_g (lw_at lw_m3 115 rfl) rfl
theorem q1067 : (Jvm.Cond.instantiable "OneElastic$Player" (0 : Nat)) ∈ lw_all := lw_g (lw_at lw_m5 38 rfl) rfl
theorem q1069 : (Jvm.Cond.instanceMethod ({ cls := "OneElastic$Player", name := "<init>", desc := "()V" } : Jvm.MethodName)) ∈ lw_all := lw_g (lw_at lw_m5 40 rfl) rfl
theorem q1070 : (Jvm.Cond.code ({ cls := "OneElastic$Player", name := "<init>", desc := "()V" } : Jvm.MethodName) prog_8_method_1_code (1 : Nat) (Option.none : Option Jvm.ClassFile.FieldType)) ∈ lw_all := lw_g (lw_at lw_m5 41 rfl) rfl
theorem q1071 : (Jvm.Cond.methodLinkNest "OneElastic$Player" (1 : Nat) ({ cls := "OneElastic$Parson", name := "<init>", desc := "()V" } : Jvm.MethodName) "OneElastic") ∈ lw_tbl := lw_at lw_m5 42 rfl
theorem q1596 : (Jvm.Cond.castable "OneElastic$Player" "java/lang/Object") ∈ lw_tbl := lw_at lw_m7 87 rfl

/-! OneElastic$Tactful -/
set_option maxRecDepth 100000
def RX5 : String := "OneElastic$Tactful"
abbrev cX5_out : ByteArray := prog_10_method_2_code
def yX5_out : MethodName := ⟨RX5, "out", "(III)I"⟩
def dkwX5_out_0 : List UInt8 := [42, 27, 28, 29, 183, 0, 7, 29, 96, 172]
abbrev dktX5_out_0 : List UInt8 := dkwX5_out_0 ++ []
theorem dksX5_out_0 : cX5_out.data.toList.drop 0 = dktX5_out_0 := by decide +kernel
theorem dX5_out_0 : decode cX5_out 0 = .ok (.aload_n 0, 1) := dk_42 (dk_at dksX5_out_0 0 rfl rfl)
theorem dX5_out_1 : decode cX5_out 1 = .ok (.iload_n 1, 1) := dk_27 (dk_at dksX5_out_0 1 rfl rfl)
theorem dX5_out_2 : decode cX5_out 2 = .ok (.iload_n 2, 1) := dk_28 (dk_at dksX5_out_0 2 rfl rfl)
theorem dX5_out_3 : decode cX5_out 3 = .ok (.iload_n 3, 1) := dk_29 (dk_at dksX5_out_0 3 rfl rfl)
theorem dX5_out_4 : decode cX5_out 4 = .ok (.invokespecial 7, 3) := dk_183 0 7 (dk_at dksX5_out_0 4 rfl rfl)
theorem dX5_out_7 : decode cX5_out 7 = .ok (.iload_n 3, 1) := dk_29 (dk_at dksX5_out_0 7 rfl rfl)
theorem dX5_out_8 : decode cX5_out 8 = .ok (.iadd, 1) := dk_96 (dk_at dksX5_out_0 8 rfl rfl)
theorem dX5_out_9 : decode cX5_out 9 = .ok (.ireturn, 1) := dk_172 (dk_at dksX5_out_0 9 rfl rfl)
abbrev cX5_init : ByteArray := prog_10_method_1_code
def yX5_init : MethodName := ⟨RX5, "<init>", "()V"⟩
theorem dX5_init_0 : decode cX5_init 0 = .ok (.aload_n 0, 1) := by decide +kernel
theorem dX5_init_1 : decode cX5_init 1 = .ok (.invokespecial 1, 3) := by decide +kernel
theorem dX5_init_4 : decode cX5_init 4 = .ok (.return_, 1) := by decide +kernel
theorem q75 : (Jvm.Cond.initialized "OneElastic$Tactful") ∈ lw_all := lw_g (lw_at lw_m1 6 rfl) rfl
theorem q214 : (Jvm.Cond.castable "OneElastic$Tactful" "OneElastic$Person") ∈ lw_tbl := lw_at lw_m1 145 rfl
theorem q215 : (Jvm.Cond.selects "OneElastic$Tactful" ({ cls := "OneElastic$Person", name := "out", desc := "(III)I" } : Jvm.MethodName) ({ cls := "OneElastic$Tactful", name := "out", desc := "(III)I" } : Jvm.MethodName)) ∈ lw_all := lw_g (lw_at lw_m1 146 rfl) rfl
theorem q216 : (Jvm.Cond.unhidden "OneElastic$Tactful" "out" "(III)I") ∈ lw_tbl := lw_at lw_m1 147 rfl
theorem q217 : (Jvm.Cond.instanceMethod ({ cls := "OneElastic$Tactful", name := "out", desc := "(III)I" } : Jvm.MethodName)) ∈ lw_all := lw_g (lw_at lw_m1 148 rfl) rfl
theorem q218 : (Jvm.Cond.publicMethod ({ cls := "OneElastic$Tactful", name := "out", desc := "(III)I" } : Jvm.MethodName)) ∈ lw_tbl := lw_at lw_m1 149 rfl
theorem q219 : (Jvm.Cond.code ({ cls := "OneElastic$Tactful", name := "out", desc := "(III)I" } : Jvm.MethodName) prog_10_method_2_code (4 : Nat) (Option.some Jvm.ClassFile.FieldType.int)) ∈ lw_all := lw_g (lw_at lw_m1 150 rfl) rfl
theorem q220 : (Jvm.Cond.methodLink "OneElastic$Tactful" (7 : Nat) ({ cls := "OneElastic$Plain", name := "out", desc := "(III)I" } : Jvm.MethodName)) ∈ lw_all := lw_g (lw_at lw_m1 151 rfl) rfl
theorem q221 : (Jvm.Cond.superclass "OneElastic$Tactful" "OneElastic$Plain") ∈ lw_all := lw_g (lw_at lw_m1 152 rfl) rfl
theorem q666 : (Jvm.Cond.selects "OneElastic$Tactful" ({ cls := "java/lang/Object", name := "getClass", desc := "()Ljava/lang/Class;" } : Jvm.MethodName) ({ cls := "java/lang/Object", name := "getClass", desc := "()Ljava/lang/Class;" } : Jvm.MethodName)) ∈ lw_all := lw_g (lw_at lw_m3 117 rfl) rfl
theorem q1073 : (Jvm.Cond.instantiable "OneElastic$Tactful" (0 : Nat)) ∈ lw_all := lw_g (lw_at lw_m5 44 rfl) rfl
theorem q1075 : (Jvm.Cond.instanceMethod ({ cls := "OneElastic$Tactful", name := "<init>", desc := "()V" } : Jvm.MethodName)) ∈ lw_all := lw_g (lw_at lw_m5 46 rfl) rfl
theorem q1076 : (Jvm.Cond.code ({ cls := "OneElastic$Tactful", name := "<init>", desc := "()V" } : Jvm.MethodName) prog_10_method_1_code (1 : Nat) (Option.none : Option Jvm.ClassFile.FieldType)) ∈ lw_all := lw_g (lw_at lw_m5 47 rfl) rfl
theorem q1077 : (Jvm.Cond.methodLinkNest "OneElastic$Tactful" (1 : Nat) ({ cls := "OneElastic$Plain", name := "<init>", desc := "()V" } : Jvm.MethodName) "OneElastic") ∈ lw_tbl := lw_at lw_m5 48 rfl
theorem q1597 : (Jvm.Cond.castable "OneElastic$Tactful" "java/lang/Object") ∈ lw_tbl := lw_at lw_m7 88 rfl

/-! OneElastic$Town -/
set_option maxRecDepth 100000
def RX6 : String := "OneElastic$Town"
def TX6 : u_T := fun k => match k with
  | 0 => ("OneElastic$Town", "kind", "[B", true)
  | 1 => ("OneElastic$Town", "strength", "[B", true)
  | 2 => ("OneElastic$Town", "place", "[B", true)
  | 3 => ("OneElastic$Town", "length", "[B", true)
  | 4 => ("OneElastic$Town", "gives", "[B", true)
  | 5 => ("OneElastic$Town", "over", "[I", true)
  | 6 => ("OneElastic$Town", "under", "[I", true)
  | 7 => ("OneElastic$Town", "n", "I", false)
  | 8 => ("OneElastic$Town", "holders", "I", false)
  | 9 => ("OneElastic$Town", "cuts", "I", false)
  | 10 => ("OneElastic$Town", "hour", "I", false)
  | 11 => ("OneElastic$Town", "bears", "I", false)
  | 12 => ("OneElastic$Town", "draw", "I", false)
  | _ => ("OneElastic$Town", "this$0", "LOneElastic;", true)
def tyX6 : Nat → FieldType := fun k => match k with
  | 0 => .array .byte
  | 1 => .array .byte
  | 2 => .array .byte
  | 3 => .array .byte
  | 4 => .array .byte
  | 5 => .array .int
  | 6 => .array .int
  | 7 => .int
  | 8 => .int
  | 9 => .int
  | 10 => .int
  | 11 => .int
  | 12 => .int
  | _ => .object "OneElastic"
abbrev wsX60 : List Cond := u_ws RX6 TX6 14
set_option maxRecDepth 100000 in
theorem nmX6 : ∀ a, a < 14 → ∀ b, b < 14 → a ≠ b → (TX6 a).2.1 ≠ (TX6 b).2.1 := by decide +kernel
set_option maxRecDepth 100000 in
theorem tyX6_ok : ∀ k, k < 14 → parseFieldDescriptor (TX6 k).2.2.1 = some (tyX6 k) := by decide +kernel
abbrev cX6_takesHold : ByteArray := prog_11_method_15_code
def yX6_takesHold : MethodName := ⟨RX6, "takesHold", "(IJ)V"⟩
def dkwX6_takesHold_0 : List UInt8 := [42, 89, 180, 0, 48, 4, 27, 120, 128, 181, 0, 48, 42, 180, 0, 22, 27, 32, 136, 145, 84, 177]
abbrev dktX6_takesHold_0 : List UInt8 := dkwX6_takesHold_0 ++ []
theorem dksX6_takesHold_0 : cX6_takesHold.data.toList.drop 0 = dktX6_takesHold_0 := by decide +kernel
theorem dX6_takesHold_0 : decode cX6_takesHold 0 = .ok (.aload_n 0, 1) := dk_42 (dk_at dksX6_takesHold_0 0 rfl rfl)
theorem dX6_takesHold_1 : decode cX6_takesHold 1 = .ok (.dup, 1) := dk_89 (dk_at dksX6_takesHold_0 1 rfl rfl)
theorem dX6_takesHold_2 : decode cX6_takesHold 2 = .ok (.getfield 48, 3) := dk_180 0 48 (dk_at dksX6_takesHold_0 2 rfl rfl)
theorem dX6_takesHold_5 : decode cX6_takesHold 5 = .ok (.iconst 1, 1) := dk_4 (dk_at dksX6_takesHold_0 5 rfl rfl)
theorem dX6_takesHold_6 : decode cX6_takesHold 6 = .ok (.iload_n 1, 1) := dk_27 (dk_at dksX6_takesHold_0 6 rfl rfl)
theorem dX6_takesHold_7 : decode cX6_takesHold 7 = .ok (.ishl, 1) := dk_120 (dk_at dksX6_takesHold_0 7 rfl rfl)
theorem dX6_takesHold_8 : decode cX6_takesHold 8 = .ok (.ior, 1) := dk_128 (dk_at dksX6_takesHold_0 8 rfl rfl)
theorem dX6_takesHold_9 : decode cX6_takesHold 9 = .ok (.putfield 48, 3) := dk_181 0 48 (dk_at dksX6_takesHold_0 9 rfl rfl)
theorem dX6_takesHold_12 : decode cX6_takesHold 12 = .ok (.aload_n 0, 1) := dk_42 (dk_at dksX6_takesHold_0 12 rfl rfl)
theorem dX6_takesHold_13 : decode cX6_takesHold 13 = .ok (.getfield 22, 3) := dk_180 0 22 (dk_at dksX6_takesHold_0 13 rfl rfl)
theorem dX6_takesHold_16 : decode cX6_takesHold 16 = .ok (.iload_n 1, 1) := dk_27 (dk_at dksX6_takesHold_0 16 rfl rfl)
theorem dX6_takesHold_17 : decode cX6_takesHold 17 = .ok (.lload_n 2, 1) := dk_32 (dk_at dksX6_takesHold_0 17 rfl rfl)
theorem dX6_takesHold_18 : decode cX6_takesHold 18 = .ok (.l2i, 1) := dk_136 (dk_at dksX6_takesHold_0 18 rfl rfl)
theorem dX6_takesHold_19 : decode cX6_takesHold 19 = .ok (.i2b, 1) := dk_145 (dk_at dksX6_takesHold_0 19 rfl rfl)
theorem dX6_takesHold_20 : decode cX6_takesHold 20 = .ok (.bastore, 1) := dk_84 (dk_at dksX6_takesHold_0 20 rfl rfl)
theorem dX6_takesHold_21 : decode cX6_takesHold 21 = .ok (.return_, 1) := dk_177 (dk_at dksX6_takesHold_0 21 rfl rfl)
abbrev cX6_measured : ByteArray := prog_11_method_6_code
def yX6_measured : MethodName := ⟨RX6, "measured", "()LOneElastic$Town;"⟩
def dkwX6_measured_3 : List UInt8 := [132, 2, 1, 167, 255, 189, 42, 176]
abbrev dktX6_measured_3 : List UInt8 := dkwX6_measured_3 ++ []
def dkwX6_measured_2 : List UInt8 := [182, 0, 67, 154, 0, 6, 167, 0, 17, 27, 16, 252, 159, 0, 9, 42, 27, 28, 182, 0, 70, 28, 60]
abbrev dktX6_measured_2 : List UInt8 := dkwX6_measured_2 ++ dktX6_measured_3
def dkwX6_measured_1 : List UInt8 := [28, 4, 79, 28, 158, 0, 16, 42, 28, 4, 100, 182, 0, 63, 153, 0, 6, 16, 252, 60, 42, 28]
abbrev dktX6_measured_1 : List UInt8 := dkwX6_measured_1 ++ dktX6_measured_2
def dkwX6_measured_0 : List UInt8 := [16, 252, 60, 3, 61, 28, 42, 180, 0, 44, 162, 0, 65, 42, 180, 0, 31, 28, 3, 79, 42, 180, 0, 35]
abbrev dktX6_measured_0 : List UInt8 := dkwX6_measured_0 ++ dktX6_measured_1
theorem dksX6_measured_0 : cX6_measured.data.toList.drop 0 = dktX6_measured_0 := by decide +kernel
theorem dksX6_measured_1 : cX6_measured.data.toList.drop 24 = dktX6_measured_1 := dk_seg dksX6_measured_0 24 rfl rfl
theorem dksX6_measured_2 : cX6_measured.data.toList.drop 46 = dktX6_measured_2 := dk_seg dksX6_measured_1 22 rfl rfl
theorem dksX6_measured_3 : cX6_measured.data.toList.drop 69 = dktX6_measured_3 := dk_seg dksX6_measured_2 23 rfl rfl
theorem dX6_measured_0 : decode cX6_measured 0 = .ok (.bipush (-4), 2) := dk_16 252 (dk_at dksX6_measured_0 0 rfl rfl)
theorem dX6_measured_2 : decode cX6_measured 2 = .ok (.istore_n 1, 1) := dk_60 (dk_at dksX6_measured_0 2 rfl rfl)
theorem dX6_measured_3 : decode cX6_measured 3 = .ok (.iconst 0, 1) := dk_3 (dk_at dksX6_measured_0 3 rfl rfl)
theorem dX6_measured_4 : decode cX6_measured 4 = .ok (.istore_n 2, 1) := dk_61 (dk_at dksX6_measured_0 4 rfl rfl)
theorem dX6_measured_5 : decode cX6_measured 5 = .ok (.iload_n 2, 1) := dk_28 (dk_at dksX6_measured_0 5 rfl rfl)
theorem dX6_measured_6 : decode cX6_measured 6 = .ok (.aload_n 0, 1) := dk_42 (dk_at dksX6_measured_0 6 rfl rfl)
theorem dX6_measured_7 : decode cX6_measured 7 = .ok (.getfield 44, 3) := dk_180 0 44 (dk_at dksX6_measured_0 7 rfl rfl)
theorem dX6_measured_10 : decode cX6_measured 10 = .ok (.if_icmp .ge 65, 3) := dk_162 0 65 (dk_at dksX6_measured_0 10 rfl rfl)
theorem dX6_measured_13 : decode cX6_measured 13 = .ok (.aload_n 0, 1) := dk_42 (dk_at dksX6_measured_0 13 rfl rfl)
theorem dX6_measured_14 : decode cX6_measured 14 = .ok (.getfield 31, 3) := dk_180 0 31 (dk_at dksX6_measured_0 14 rfl rfl)
theorem dX6_measured_17 : decode cX6_measured 17 = .ok (.iload_n 2, 1) := dk_28 (dk_at dksX6_measured_0 17 rfl rfl)
theorem dX6_measured_18 : decode cX6_measured 18 = .ok (.iconst 0, 1) := dk_3 (dk_at dksX6_measured_0 18 rfl rfl)
theorem dX6_measured_19 : decode cX6_measured 19 = .ok (.iastore, 1) := dk_79 (dk_at dksX6_measured_0 19 rfl rfl)
theorem dX6_measured_20 : decode cX6_measured 20 = .ok (.aload_n 0, 1) := dk_42 (dk_at dksX6_measured_0 20 rfl rfl)
theorem dX6_measured_21 : decode cX6_measured 21 = .ok (.getfield 35, 3) := dk_180 0 35 (dk_at dksX6_measured_0 21 rfl rfl)
theorem dX6_measured_24 : decode cX6_measured 24 = .ok (.iload_n 2, 1) := dk_28 (dk_at dksX6_measured_1 0 rfl rfl)
theorem dX6_measured_25 : decode cX6_measured 25 = .ok (.iconst 1, 1) := dk_4 (dk_at dksX6_measured_1 1 rfl rfl)
theorem dX6_measured_26 : decode cX6_measured 26 = .ok (.iastore, 1) := dk_79 (dk_at dksX6_measured_1 2 rfl rfl)
theorem dX6_measured_27 : decode cX6_measured 27 = .ok (.iload_n 2, 1) := dk_28 (dk_at dksX6_measured_1 3 rfl rfl)
theorem dX6_measured_28 : decode cX6_measured 28 = .ok (.ifCond .le 16, 3) := dk_158 0 16 (dk_at dksX6_measured_1 4 rfl rfl)
theorem dX6_measured_31 : decode cX6_measured 31 = .ok (.aload_n 0, 1) := dk_42 (dk_at dksX6_measured_1 7 rfl rfl)
theorem dX6_measured_32 : decode cX6_measured 32 = .ok (.iload_n 2, 1) := dk_28 (dk_at dksX6_measured_1 8 rfl rfl)
theorem dX6_measured_33 : decode cX6_measured 33 = .ok (.iconst 1, 1) := dk_4 (dk_at dksX6_measured_1 9 rfl rfl)
theorem dX6_measured_34 : decode cX6_measured 34 = .ok (.isub, 1) := dk_100 (dk_at dksX6_measured_1 10 rfl rfl)
theorem dX6_measured_35 : decode cX6_measured 35 = .ok (.invokevirtual 63, 3) := dk_182 0 63 (dk_at dksX6_measured_1 11 rfl rfl)
theorem dX6_measured_38 : decode cX6_measured 38 = .ok (.ifCond .eq 6, 3) := dk_153 0 6 (dk_at dksX6_measured_1 14 rfl rfl)
theorem dX6_measured_41 : decode cX6_measured 41 = .ok (.bipush (-4), 2) := dk_16 252 (dk_at dksX6_measured_1 17 rfl rfl)
theorem dX6_measured_43 : decode cX6_measured 43 = .ok (.istore_n 1, 1) := dk_60 (dk_at dksX6_measured_1 19 rfl rfl)
theorem dX6_measured_44 : decode cX6_measured 44 = .ok (.aload_n 0, 1) := dk_42 (dk_at dksX6_measured_1 20 rfl rfl)
theorem dX6_measured_45 : decode cX6_measured 45 = .ok (.iload_n 2, 1) := dk_28 (dk_at dksX6_measured_1 21 rfl rfl)
theorem dX6_measured_46 : decode cX6_measured 46 = .ok (.invokevirtual 67, 3) := dk_182 0 67 (dk_at dksX6_measured_2 0 rfl rfl)
theorem dX6_measured_49 : decode cX6_measured 49 = .ok (.ifCond .ne 6, 3) := dk_154 0 6 (dk_at dksX6_measured_2 3 rfl rfl)
theorem dX6_measured_52 : decode cX6_measured 52 = .ok (.goto 17, 3) := dk_167 0 17 (dk_at dksX6_measured_2 6 rfl rfl)
theorem dX6_measured_55 : decode cX6_measured 55 = .ok (.iload_n 1, 1) := dk_27 (dk_at dksX6_measured_2 9 rfl rfl)
theorem dX6_measured_56 : decode cX6_measured 56 = .ok (.bipush (-4), 2) := dk_16 252 (dk_at dksX6_measured_2 10 rfl rfl)
theorem dX6_measured_58 : decode cX6_measured 58 = .ok (.if_icmp .eq 9, 3) := dk_159 0 9 (dk_at dksX6_measured_2 12 rfl rfl)
theorem dX6_measured_61 : decode cX6_measured 61 = .ok (.aload_n 0, 1) := dk_42 (dk_at dksX6_measured_2 15 rfl rfl)
theorem dX6_measured_62 : decode cX6_measured 62 = .ok (.iload_n 1, 1) := dk_27 (dk_at dksX6_measured_2 16 rfl rfl)
theorem dX6_measured_63 : decode cX6_measured 63 = .ok (.iload_n 2, 1) := dk_28 (dk_at dksX6_measured_2 17 rfl rfl)
theorem dX6_measured_64 : decode cX6_measured 64 = .ok (.invokevirtual 70, 3) := dk_182 0 70 (dk_at dksX6_measured_2 18 rfl rfl)
theorem dX6_measured_67 : decode cX6_measured 67 = .ok (.iload_n 2, 1) := dk_28 (dk_at dksX6_measured_2 21 rfl rfl)
theorem dX6_measured_68 : decode cX6_measured 68 = .ok (.istore_n 1, 1) := dk_60 (dk_at dksX6_measured_2 22 rfl rfl)
theorem dX6_measured_69 : decode cX6_measured 69 = .ok (.iinc 2 1, 3) := dk_132 2 1 (dk_at dksX6_measured_3 0 rfl rfl)
theorem dX6_measured_72 : decode cX6_measured 72 = .ok (.goto (-67), 3) := dk_167 255 189 (dk_at dksX6_measured_3 3 rfl rfl)
theorem dX6_measured_75 : decode cX6_measured 75 = .ok (.aload_n 0, 1) := dk_42 (dk_at dksX6_measured_3 6 rfl rfl)
theorem dX6_measured_76 : decode cX6_measured 76 = .ok (.areturn, 1) := dk_176 (dk_at dksX6_measured_3 7 rfl rfl)
abbrev cX6_isCut : ByteArray := prog_11_method_4_code
def yX6_isCut : MethodName := ⟨RX6, "isCut", "(I)Z"⟩
def dkwX6_isCut_0 : List UInt8 := [42, 180, 0, 51, 27, 122, 4, 126, 4, 160, 0, 7, 4, 167, 0, 4, 3, 172]
abbrev dktX6_isCut_0 : List UInt8 := dkwX6_isCut_0 ++ []
theorem dksX6_isCut_0 : cX6_isCut.data.toList.drop 0 = dktX6_isCut_0 := by decide +kernel
theorem dX6_isCut_0 : decode cX6_isCut 0 = .ok (.aload_n 0, 1) := dk_42 (dk_at dksX6_isCut_0 0 rfl rfl)
theorem dX6_isCut_1 : decode cX6_isCut 1 = .ok (.getfield 51, 3) := dk_180 0 51 (dk_at dksX6_isCut_0 1 rfl rfl)
theorem dX6_isCut_4 : decode cX6_isCut 4 = .ok (.iload_n 1, 1) := dk_27 (dk_at dksX6_isCut_0 4 rfl rfl)
theorem dX6_isCut_5 : decode cX6_isCut 5 = .ok (.ishr, 1) := dk_122 (dk_at dksX6_isCut_0 5 rfl rfl)
theorem dX6_isCut_6 : decode cX6_isCut 6 = .ok (.iconst 1, 1) := dk_4 (dk_at dksX6_isCut_0 6 rfl rfl)
theorem dX6_isCut_7 : decode cX6_isCut 7 = .ok (.iand, 1) := dk_126 (dk_at dksX6_isCut_0 7 rfl rfl)
theorem dX6_isCut_8 : decode cX6_isCut 8 = .ok (.iconst 1, 1) := dk_4 (dk_at dksX6_isCut_0 8 rfl rfl)
theorem dX6_isCut_9 : decode cX6_isCut 9 = .ok (.if_icmp .ne 7, 3) := dk_160 0 7 (dk_at dksX6_isCut_0 9 rfl rfl)
theorem dX6_isCut_12 : decode cX6_isCut 12 = .ok (.iconst 1, 1) := dk_4 (dk_at dksX6_isCut_0 12 rfl rfl)
theorem dX6_isCut_13 : decode cX6_isCut 13 = .ok (.goto 4, 3) := dk_167 0 4 (dk_at dksX6_isCut_0 13 rfl rfl)
theorem dX6_isCut_16 : decode cX6_isCut 16 = .ok (.iconst 0, 1) := dk_3 (dk_at dksX6_isCut_0 16 rfl rfl)
theorem dX6_isCut_17 : decode cX6_isCut 17 = .ok (.ireturn, 1) := dk_172 (dk_at dksX6_isCut_0 17 rfl rfl)
abbrev cX6_holds : ByteArray := prog_11_method_3_code
def yX6_holds : MethodName := ⟨RX6, "holds", "(I)Z"⟩
def dkwX6_holds_0 : List UInt8 := [42, 180, 0, 48, 27, 122, 4, 126, 4, 160, 0, 7, 4, 167, 0, 4, 3, 172]
abbrev dktX6_holds_0 : List UInt8 := dkwX6_holds_0 ++ []
theorem dksX6_holds_0 : cX6_holds.data.toList.drop 0 = dktX6_holds_0 := by decide +kernel
theorem dX6_holds_0 : decode cX6_holds 0 = .ok (.aload_n 0, 1) := dk_42 (dk_at dksX6_holds_0 0 rfl rfl)
theorem dX6_holds_1 : decode cX6_holds 1 = .ok (.getfield 48, 3) := dk_180 0 48 (dk_at dksX6_holds_0 1 rfl rfl)
theorem dX6_holds_4 : decode cX6_holds 4 = .ok (.iload_n 1, 1) := dk_27 (dk_at dksX6_holds_0 4 rfl rfl)
theorem dX6_holds_5 : decode cX6_holds 5 = .ok (.ishr, 1) := dk_122 (dk_at dksX6_holds_0 5 rfl rfl)
theorem dX6_holds_6 : decode cX6_holds 6 = .ok (.iconst 1, 1) := dk_4 (dk_at dksX6_holds_0 6 rfl rfl)
theorem dX6_holds_7 : decode cX6_holds 7 = .ok (.iand, 1) := dk_126 (dk_at dksX6_holds_0 7 rfl rfl)
theorem dX6_holds_8 : decode cX6_holds 8 = .ok (.iconst 1, 1) := dk_4 (dk_at dksX6_holds_0 8 rfl rfl)
theorem dX6_holds_9 : decode cX6_holds 9 = .ok (.if_icmp .ne 7, 3) := dk_160 0 7 (dk_at dksX6_holds_0 9 rfl rfl)
theorem dX6_holds_12 : decode cX6_holds 12 = .ok (.iconst 1, 1) := dk_4 (dk_at dksX6_holds_0 12 rfl rfl)
theorem dX6_holds_13 : decode cX6_holds 13 = .ok (.goto 4, 3) := dk_167 0 4 (dk_at dksX6_holds_0 13 rfl rfl)
theorem dX6_holds_16 : decode cX6_holds 16 = .ok (.iconst 0, 1) := dk_3 (dk_at dksX6_holds_0 16 rfl rfl)
theorem dX6_holds_17 : decode cX6_holds 17 = .ok (.ireturn, 1) := dk_172 (dk_at dksX6_holds_0 17 rfl rfl)
abbrev cX6_pulls : ByteArray := prog_11_method_7_code
def yX6_pulls : MethodName := ⟨RX6, "pulls", "(II)V"⟩
def dkwX6_pulls_3 : List UInt8 := [180, 0, 31, 21, 5, 29, 79, 42, 180, 0, 35, 21, 5, 21, 4, 79, 132, 5, 1, 167, 255, 230, 177]
abbrev dktX6_pulls_3 : List UInt8 := dkwX6_pulls_3 ++ []
def dkwX6_pulls_2 : List UInt8 := [54, 4, 132, 5, 1, 167, 255, 225, 29, 157, 0, 4, 177, 27, 54, 5, 21, 5, 28, 162, 0, 26, 42]
abbrev dktX6_pulls_2 : List UInt8 := dkwX6_pulls_2 ++ dktX6_pulls_3
def dkwX6_pulls_1 : List UInt8 := [162, 0, 31, 29, 42, 180, 0, 25, 21, 5, 51, 100, 62, 21, 4, 42, 180, 0, 28, 21, 5, 51, 96]
abbrev dktX6_pulls_1 : List UInt8 := dkwX6_pulls_1 ++ dktX6_pulls_2
def dkwX6_pulls_0 : List UInt8 := [42, 180, 0, 22, 28, 51, 42, 180, 0, 22, 27, 51, 100, 62, 3, 54, 4, 27, 54, 5, 21, 5, 28]
abbrev dktX6_pulls_0 : List UInt8 := dkwX6_pulls_0 ++ dktX6_pulls_1
theorem dksX6_pulls_0 : cX6_pulls.data.toList.drop 0 = dktX6_pulls_0 := by decide +kernel
theorem dksX6_pulls_1 : cX6_pulls.data.toList.drop 23 = dktX6_pulls_1 := dk_seg dksX6_pulls_0 23 rfl rfl
theorem dksX6_pulls_2 : cX6_pulls.data.toList.drop 46 = dktX6_pulls_2 := dk_seg dksX6_pulls_1 23 rfl rfl
theorem dksX6_pulls_3 : cX6_pulls.data.toList.drop 69 = dktX6_pulls_3 := dk_seg dksX6_pulls_2 23 rfl rfl
theorem dX6_pulls_0 : decode cX6_pulls 0 = .ok (.aload_n 0, 1) := dk_42 (dk_at dksX6_pulls_0 0 rfl rfl)
theorem dX6_pulls_1 : decode cX6_pulls 1 = .ok (.getfield 22, 3) := dk_180 0 22 (dk_at dksX6_pulls_0 1 rfl rfl)
theorem dX6_pulls_4 : decode cX6_pulls 4 = .ok (.iload_n 2, 1) := dk_28 (dk_at dksX6_pulls_0 4 rfl rfl)
theorem dX6_pulls_5 : decode cX6_pulls 5 = .ok (.baload, 1) := dk_51 (dk_at dksX6_pulls_0 5 rfl rfl)
theorem dX6_pulls_6 : decode cX6_pulls 6 = .ok (.aload_n 0, 1) := dk_42 (dk_at dksX6_pulls_0 6 rfl rfl)
theorem dX6_pulls_7 : decode cX6_pulls 7 = .ok (.getfield 22, 3) := dk_180 0 22 (dk_at dksX6_pulls_0 7 rfl rfl)
theorem dX6_pulls_10 : decode cX6_pulls 10 = .ok (.iload_n 1, 1) := dk_27 (dk_at dksX6_pulls_0 10 rfl rfl)
theorem dX6_pulls_11 : decode cX6_pulls 11 = .ok (.baload, 1) := dk_51 (dk_at dksX6_pulls_0 11 rfl rfl)
theorem dX6_pulls_12 : decode cX6_pulls 12 = .ok (.isub, 1) := dk_100 (dk_at dksX6_pulls_0 12 rfl rfl)
theorem dX6_pulls_13 : decode cX6_pulls 13 = .ok (.istore_n 3, 1) := dk_62 (dk_at dksX6_pulls_0 13 rfl rfl)
theorem dX6_pulls_14 : decode cX6_pulls 14 = .ok (.iconst 0, 1) := dk_3 (dk_at dksX6_pulls_0 14 rfl rfl)
theorem dX6_pulls_15 : decode cX6_pulls 15 = .ok (.istore 4, 2) := dk_54 4 (dk_at dksX6_pulls_0 15 rfl rfl)
theorem dX6_pulls_17 : decode cX6_pulls 17 = .ok (.iload_n 1, 1) := dk_27 (dk_at dksX6_pulls_0 17 rfl rfl)
theorem dX6_pulls_18 : decode cX6_pulls 18 = .ok (.istore 5, 2) := dk_54 5 (dk_at dksX6_pulls_0 18 rfl rfl)
theorem dX6_pulls_20 : decode cX6_pulls 20 = .ok (.iload 5, 2) := dk_21 5 (dk_at dksX6_pulls_0 20 rfl rfl)
theorem dX6_pulls_22 : decode cX6_pulls 22 = .ok (.iload_n 2, 1) := dk_28 (dk_at dksX6_pulls_0 22 rfl rfl)
theorem dX6_pulls_23 : decode cX6_pulls 23 = .ok (.if_icmp .ge 31, 3) := dk_162 0 31 (dk_at dksX6_pulls_1 0 rfl rfl)
theorem dX6_pulls_26 : decode cX6_pulls 26 = .ok (.iload_n 3, 1) := dk_29 (dk_at dksX6_pulls_1 3 rfl rfl)
theorem dX6_pulls_27 : decode cX6_pulls 27 = .ok (.aload_n 0, 1) := dk_42 (dk_at dksX6_pulls_1 4 rfl rfl)
theorem dX6_pulls_28 : decode cX6_pulls 28 = .ok (.getfield 25, 3) := dk_180 0 25 (dk_at dksX6_pulls_1 5 rfl rfl)
theorem dX6_pulls_31 : decode cX6_pulls 31 = .ok (.iload 5, 2) := dk_21 5 (dk_at dksX6_pulls_1 8 rfl rfl)
theorem dX6_pulls_33 : decode cX6_pulls 33 = .ok (.baload, 1) := dk_51 (dk_at dksX6_pulls_1 10 rfl rfl)
theorem dX6_pulls_34 : decode cX6_pulls 34 = .ok (.isub, 1) := dk_100 (dk_at dksX6_pulls_1 11 rfl rfl)
theorem dX6_pulls_35 : decode cX6_pulls 35 = .ok (.istore_n 3, 1) := dk_62 (dk_at dksX6_pulls_1 12 rfl rfl)
theorem dX6_pulls_36 : decode cX6_pulls 36 = .ok (.iload 4, 2) := dk_21 4 (dk_at dksX6_pulls_1 13 rfl rfl)
theorem dX6_pulls_38 : decode cX6_pulls 38 = .ok (.aload_n 0, 1) := dk_42 (dk_at dksX6_pulls_1 15 rfl rfl)
theorem dX6_pulls_39 : decode cX6_pulls 39 = .ok (.getfield 28, 3) := dk_180 0 28 (dk_at dksX6_pulls_1 16 rfl rfl)
theorem dX6_pulls_42 : decode cX6_pulls 42 = .ok (.iload 5, 2) := dk_21 5 (dk_at dksX6_pulls_1 19 rfl rfl)
theorem dX6_pulls_44 : decode cX6_pulls 44 = .ok (.baload, 1) := dk_51 (dk_at dksX6_pulls_1 21 rfl rfl)
theorem dX6_pulls_45 : decode cX6_pulls 45 = .ok (.iadd, 1) := dk_96 (dk_at dksX6_pulls_1 22 rfl rfl)
theorem dX6_pulls_46 : decode cX6_pulls 46 = .ok (.istore 4, 2) := dk_54 4 (dk_at dksX6_pulls_2 0 rfl rfl)
theorem dX6_pulls_48 : decode cX6_pulls 48 = .ok (.iinc 5 1, 3) := dk_132 5 1 (dk_at dksX6_pulls_2 2 rfl rfl)
theorem dX6_pulls_51 : decode cX6_pulls 51 = .ok (.goto (-31), 3) := dk_167 255 225 (dk_at dksX6_pulls_2 5 rfl rfl)
theorem dX6_pulls_54 : decode cX6_pulls 54 = .ok (.iload_n 3, 1) := dk_29 (dk_at dksX6_pulls_2 8 rfl rfl)
theorem dX6_pulls_55 : decode cX6_pulls 55 = .ok (.ifCond .gt 4, 3) := dk_157 0 4 (dk_at dksX6_pulls_2 9 rfl rfl)
theorem dX6_pulls_58 : decode cX6_pulls 58 = .ok (.return_, 1) := dk_177 (dk_at dksX6_pulls_2 12 rfl rfl)
theorem dX6_pulls_59 : decode cX6_pulls 59 = .ok (.iload_n 1, 1) := dk_27 (dk_at dksX6_pulls_2 13 rfl rfl)
theorem dX6_pulls_60 : decode cX6_pulls 60 = .ok (.istore 5, 2) := dk_54 5 (dk_at dksX6_pulls_2 14 rfl rfl)
theorem dX6_pulls_62 : decode cX6_pulls 62 = .ok (.iload 5, 2) := dk_21 5 (dk_at dksX6_pulls_2 16 rfl rfl)
theorem dX6_pulls_64 : decode cX6_pulls 64 = .ok (.iload_n 2, 1) := dk_28 (dk_at dksX6_pulls_2 18 rfl rfl)
theorem dX6_pulls_65 : decode cX6_pulls 65 = .ok (.if_icmp .ge 26, 3) := dk_162 0 26 (dk_at dksX6_pulls_2 19 rfl rfl)
theorem dX6_pulls_68 : decode cX6_pulls 68 = .ok (.aload_n 0, 1) := dk_42 (dk_at dksX6_pulls_2 22 rfl rfl)
theorem dX6_pulls_69 : decode cX6_pulls 69 = .ok (.getfield 31, 3) := dk_180 0 31 (dk_at dksX6_pulls_3 0 rfl rfl)
theorem dX6_pulls_72 : decode cX6_pulls 72 = .ok (.iload 5, 2) := dk_21 5 (dk_at dksX6_pulls_3 3 rfl rfl)
theorem dX6_pulls_74 : decode cX6_pulls 74 = .ok (.iload_n 3, 1) := dk_29 (dk_at dksX6_pulls_3 5 rfl rfl)
theorem dX6_pulls_75 : decode cX6_pulls 75 = .ok (.iastore, 1) := dk_79 (dk_at dksX6_pulls_3 6 rfl rfl)
theorem dX6_pulls_76 : decode cX6_pulls 76 = .ok (.aload_n 0, 1) := dk_42 (dk_at dksX6_pulls_3 7 rfl rfl)
theorem dX6_pulls_77 : decode cX6_pulls 77 = .ok (.getfield 35, 3) := dk_180 0 35 (dk_at dksX6_pulls_3 8 rfl rfl)
theorem dX6_pulls_80 : decode cX6_pulls 80 = .ok (.iload 5, 2) := dk_21 5 (dk_at dksX6_pulls_3 11 rfl rfl)
theorem dX6_pulls_82 : decode cX6_pulls 82 = .ok (.iload 4, 2) := dk_21 4 (dk_at dksX6_pulls_3 13 rfl rfl)
theorem dX6_pulls_84 : decode cX6_pulls 84 = .ok (.iastore, 1) := dk_79 (dk_at dksX6_pulls_3 15 rfl rfl)
theorem dX6_pulls_85 : decode cX6_pulls 85 = .ok (.iinc 5 1, 3) := dk_132 5 1 (dk_at dksX6_pulls_3 16 rfl rfl)
theorem dX6_pulls_88 : decode cX6_pulls 88 = .ok (.goto (-26), 3) := dk_167 255 230 (dk_at dksX6_pulls_3 19 rfl rfl)
theorem dX6_pulls_91 : decode cX6_pulls 91 = .ok (.return_, 1) := dk_177 (dk_at dksX6_pulls_3 22 rfl rfl)
abbrev cX6_pulledBy : ByteArray := prog_11_method_8_code
def yX6_pulledBy : MethodName := ⟨RX6, "pulledBy", "(I)J"⟩
def dkwX6_pulledBy_2 : List UInt8 := [46, 133, 105, 42, 180, 0, 31, 27, 4, 100, 46, 133, 42, 27, 182, 0, 74, 133, 105, 101, 173]
abbrev dktX6_pulledBy_2 : List UInt8 := dkwX6_pulledBy_2 ++ []
def dkwX6_pulledBy_1 : List UInt8 := [27, 46, 133, 167, 0, 4, 9, 65, 27, 154, 0, 7, 32, 167, 0, 31, 32, 42, 180, 0, 35, 27, 4, 100]
abbrev dktX6_pulledBy_1 : List UInt8 := dkwX6_pulledBy_1 ++ dktX6_pulledBy_2
def dkwX6_pulledBy_0 : List UInt8 := [42, 27, 182, 0, 67, 154, 0, 5, 9, 173, 27, 42, 180, 0, 44, 4, 100, 162, 0, 13, 42, 180, 0, 31]
abbrev dktX6_pulledBy_0 : List UInt8 := dkwX6_pulledBy_0 ++ dktX6_pulledBy_1
theorem dksX6_pulledBy_0 : cX6_pulledBy.data.toList.drop 0 = dktX6_pulledBy_0 := by decide +kernel
theorem dksX6_pulledBy_1 : cX6_pulledBy.data.toList.drop 24 = dktX6_pulledBy_1 := dk_seg dksX6_pulledBy_0 24 rfl rfl
theorem dksX6_pulledBy_2 : cX6_pulledBy.data.toList.drop 48 = dktX6_pulledBy_2 := dk_seg dksX6_pulledBy_1 24 rfl rfl
theorem dX6_pulledBy_0 : decode cX6_pulledBy 0 = .ok (.aload_n 0, 1) := dk_42 (dk_at dksX6_pulledBy_0 0 rfl rfl)
theorem dX6_pulledBy_1 : decode cX6_pulledBy 1 = .ok (.iload_n 1, 1) := dk_27 (dk_at dksX6_pulledBy_0 1 rfl rfl)
theorem dX6_pulledBy_2 : decode cX6_pulledBy 2 = .ok (.invokevirtual 67, 3) := dk_182 0 67 (dk_at dksX6_pulledBy_0 2 rfl rfl)
theorem dX6_pulledBy_5 : decode cX6_pulledBy 5 = .ok (.ifCond .ne 5, 3) := dk_154 0 5 (dk_at dksX6_pulledBy_0 5 rfl rfl)
theorem dX6_pulledBy_8 : decode cX6_pulledBy 8 = .ok (.lconst 0, 1) := dk_9 (dk_at dksX6_pulledBy_0 8 rfl rfl)
theorem dX6_pulledBy_9 : decode cX6_pulledBy 9 = .ok (.lreturn, 1) := dk_173 (dk_at dksX6_pulledBy_0 9 rfl rfl)
theorem dX6_pulledBy_10 : decode cX6_pulledBy 10 = .ok (.iload_n 1, 1) := dk_27 (dk_at dksX6_pulledBy_0 10 rfl rfl)
theorem dX6_pulledBy_11 : decode cX6_pulledBy 11 = .ok (.aload_n 0, 1) := dk_42 (dk_at dksX6_pulledBy_0 11 rfl rfl)
theorem dX6_pulledBy_12 : decode cX6_pulledBy 12 = .ok (.getfield 44, 3) := dk_180 0 44 (dk_at dksX6_pulledBy_0 12 rfl rfl)
theorem dX6_pulledBy_15 : decode cX6_pulledBy 15 = .ok (.iconst 1, 1) := dk_4 (dk_at dksX6_pulledBy_0 15 rfl rfl)
theorem dX6_pulledBy_16 : decode cX6_pulledBy 16 = .ok (.isub, 1) := dk_100 (dk_at dksX6_pulledBy_0 16 rfl rfl)
theorem dX6_pulledBy_17 : decode cX6_pulledBy 17 = .ok (.if_icmp .ge 13, 3) := dk_162 0 13 (dk_at dksX6_pulledBy_0 17 rfl rfl)
theorem dX6_pulledBy_20 : decode cX6_pulledBy 20 = .ok (.aload_n 0, 1) := dk_42 (dk_at dksX6_pulledBy_0 20 rfl rfl)
theorem dX6_pulledBy_21 : decode cX6_pulledBy 21 = .ok (.getfield 31, 3) := dk_180 0 31 (dk_at dksX6_pulledBy_0 21 rfl rfl)
theorem dX6_pulledBy_24 : decode cX6_pulledBy 24 = .ok (.iload_n 1, 1) := dk_27 (dk_at dksX6_pulledBy_1 0 rfl rfl)
theorem dX6_pulledBy_25 : decode cX6_pulledBy 25 = .ok (.iaload, 1) := dk_46 (dk_at dksX6_pulledBy_1 1 rfl rfl)
theorem dX6_pulledBy_26 : decode cX6_pulledBy 26 = .ok (.i2l, 1) := dk_133 (dk_at dksX6_pulledBy_1 2 rfl rfl)
theorem dX6_pulledBy_27 : decode cX6_pulledBy 27 = .ok (.goto 4, 3) := dk_167 0 4 (dk_at dksX6_pulledBy_1 3 rfl rfl)
theorem dX6_pulledBy_30 : decode cX6_pulledBy 30 = .ok (.lconst 0, 1) := dk_9 (dk_at dksX6_pulledBy_1 6 rfl rfl)
theorem dX6_pulledBy_31 : decode cX6_pulledBy 31 = .ok (.lstore_n 2, 1) := dk_65 (dk_at dksX6_pulledBy_1 7 rfl rfl)
theorem dX6_pulledBy_32 : decode cX6_pulledBy 32 = .ok (.iload_n 1, 1) := dk_27 (dk_at dksX6_pulledBy_1 8 rfl rfl)
theorem dX6_pulledBy_33 : decode cX6_pulledBy 33 = .ok (.ifCond .ne 7, 3) := dk_154 0 7 (dk_at dksX6_pulledBy_1 9 rfl rfl)
theorem dX6_pulledBy_36 : decode cX6_pulledBy 36 = .ok (.lload_n 2, 1) := dk_32 (dk_at dksX6_pulledBy_1 12 rfl rfl)
theorem dX6_pulledBy_37 : decode cX6_pulledBy 37 = .ok (.goto 31, 3) := dk_167 0 31 (dk_at dksX6_pulledBy_1 13 rfl rfl)
theorem dX6_pulledBy_40 : decode cX6_pulledBy 40 = .ok (.lload_n 2, 1) := dk_32 (dk_at dksX6_pulledBy_1 16 rfl rfl)
theorem dX6_pulledBy_41 : decode cX6_pulledBy 41 = .ok (.aload_n 0, 1) := dk_42 (dk_at dksX6_pulledBy_1 17 rfl rfl)
theorem dX6_pulledBy_42 : decode cX6_pulledBy 42 = .ok (.getfield 35, 3) := dk_180 0 35 (dk_at dksX6_pulledBy_1 18 rfl rfl)
theorem dX6_pulledBy_45 : decode cX6_pulledBy 45 = .ok (.iload_n 1, 1) := dk_27 (dk_at dksX6_pulledBy_1 21 rfl rfl)
theorem dX6_pulledBy_46 : decode cX6_pulledBy 46 = .ok (.iconst 1, 1) := dk_4 (dk_at dksX6_pulledBy_1 22 rfl rfl)
theorem dX6_pulledBy_47 : decode cX6_pulledBy 47 = .ok (.isub, 1) := dk_100 (dk_at dksX6_pulledBy_1 23 rfl rfl)
theorem dX6_pulledBy_48 : decode cX6_pulledBy 48 = .ok (.iaload, 1) := dk_46 (dk_at dksX6_pulledBy_2 0 rfl rfl)
theorem dX6_pulledBy_49 : decode cX6_pulledBy 49 = .ok (.i2l, 1) := dk_133 (dk_at dksX6_pulledBy_2 1 rfl rfl)
theorem dX6_pulledBy_50 : decode cX6_pulledBy 50 = .ok (.lmul, 1) := dk_105 (dk_at dksX6_pulledBy_2 2 rfl rfl)
theorem dX6_pulledBy_51 : decode cX6_pulledBy 51 = .ok (.aload_n 0, 1) := dk_42 (dk_at dksX6_pulledBy_2 3 rfl rfl)
theorem dX6_pulledBy_52 : decode cX6_pulledBy 52 = .ok (.getfield 31, 3) := dk_180 0 31 (dk_at dksX6_pulledBy_2 4 rfl rfl)
theorem dX6_pulledBy_55 : decode cX6_pulledBy 55 = .ok (.iload_n 1, 1) := dk_27 (dk_at dksX6_pulledBy_2 7 rfl rfl)
theorem dX6_pulledBy_56 : decode cX6_pulledBy 56 = .ok (.iconst 1, 1) := dk_4 (dk_at dksX6_pulledBy_2 8 rfl rfl)
theorem dX6_pulledBy_57 : decode cX6_pulledBy 57 = .ok (.isub, 1) := dk_100 (dk_at dksX6_pulledBy_2 9 rfl rfl)
theorem dX6_pulledBy_58 : decode cX6_pulledBy 58 = .ok (.iaload, 1) := dk_46 (dk_at dksX6_pulledBy_2 10 rfl rfl)
theorem dX6_pulledBy_59 : decode cX6_pulledBy 59 = .ok (.i2l, 1) := dk_133 (dk_at dksX6_pulledBy_2 11 rfl rfl)
theorem dX6_pulledBy_60 : decode cX6_pulledBy 60 = .ok (.aload_n 0, 1) := dk_42 (dk_at dksX6_pulledBy_2 12 rfl rfl)
theorem dX6_pulledBy_61 : decode cX6_pulledBy 61 = .ok (.iload_n 1, 1) := dk_27 (dk_at dksX6_pulledBy_2 13 rfl rfl)
theorem dX6_pulledBy_62 : decode cX6_pulledBy 62 = .ok (.invokevirtual 74, 3) := dk_182 0 74 (dk_at dksX6_pulledBy_2 14 rfl rfl)
theorem dX6_pulledBy_65 : decode cX6_pulledBy 65 = .ok (.i2l, 1) := dk_133 (dk_at dksX6_pulledBy_2 17 rfl rfl)
theorem dX6_pulledBy_66 : decode cX6_pulledBy 66 = .ok (.lmul, 1) := dk_105 (dk_at dksX6_pulledBy_2 18 rfl rfl)
theorem dX6_pulledBy_67 : decode cX6_pulledBy 67 = .ok (.lsub, 1) := dk_101 (dk_at dksX6_pulledBy_2 19 rfl rfl)
theorem dX6_pulledBy_68 : decode cX6_pulledBy 68 = .ok (.lreturn, 1) := dk_173 (dk_at dksX6_pulledBy_2 20 rfl rfl)
abbrev cX6_belowRight : ByteArray := prog_11_method_9_code
def yX6_belowRight : MethodName := ⟨RX6, "belowRight", "(I)I"⟩
def dkwX6_belowRight_0 : List UInt8 := [27, 42, 180, 0, 44, 4, 100, 162, 0, 12, 42, 180, 0, 35, 27, 46, 167, 0, 4, 4, 172]
abbrev dktX6_belowRight_0 : List UInt8 := dkwX6_belowRight_0 ++ []
theorem dksX6_belowRight_0 : cX6_belowRight.data.toList.drop 0 = dktX6_belowRight_0 := by decide +kernel
theorem dX6_belowRight_0 : decode cX6_belowRight 0 = .ok (.iload_n 1, 1) := dk_27 (dk_at dksX6_belowRight_0 0 rfl rfl)
theorem dX6_belowRight_1 : decode cX6_belowRight 1 = .ok (.aload_n 0, 1) := dk_42 (dk_at dksX6_belowRight_0 1 rfl rfl)
theorem dX6_belowRight_2 : decode cX6_belowRight 2 = .ok (.getfield 44, 3) := dk_180 0 44 (dk_at dksX6_belowRight_0 2 rfl rfl)
theorem dX6_belowRight_5 : decode cX6_belowRight 5 = .ok (.iconst 1, 1) := dk_4 (dk_at dksX6_belowRight_0 5 rfl rfl)
theorem dX6_belowRight_6 : decode cX6_belowRight 6 = .ok (.isub, 1) := dk_100 (dk_at dksX6_belowRight_0 6 rfl rfl)
theorem dX6_belowRight_7 : decode cX6_belowRight 7 = .ok (.if_icmp .ge 12, 3) := dk_162 0 12 (dk_at dksX6_belowRight_0 7 rfl rfl)
theorem dX6_belowRight_10 : decode cX6_belowRight 10 = .ok (.aload_n 0, 1) := dk_42 (dk_at dksX6_belowRight_0 10 rfl rfl)
theorem dX6_belowRight_11 : decode cX6_belowRight 11 = .ok (.getfield 35, 3) := dk_180 0 35 (dk_at dksX6_belowRight_0 11 rfl rfl)
theorem dX6_belowRight_14 : decode cX6_belowRight 14 = .ok (.iload_n 1, 1) := dk_27 (dk_at dksX6_belowRight_0 14 rfl rfl)
theorem dX6_belowRight_15 : decode cX6_belowRight 15 = .ok (.iaload, 1) := dk_46 (dk_at dksX6_belowRight_0 15 rfl rfl)
theorem dX6_belowRight_16 : decode cX6_belowRight 16 = .ok (.goto 4, 3) := dk_167 0 4 (dk_at dksX6_belowRight_0 16 rfl rfl)
theorem dX6_belowRight_19 : decode cX6_belowRight 19 = .ok (.iconst 1, 1) := dk_4 (dk_at dksX6_belowRight_0 19 rfl rfl)
theorem dX6_belowRight_20 : decode cX6_belowRight 20 = .ok (.ireturn, 1) := dk_172 (dk_at dksX6_belowRight_0 20 rfl rfl)
abbrev cX6_holdsOut : ByteArray := prog_11_method_12_code
def yX6_holdsOut : MethodName := ⟨RX6, "holdsOut", "(I)I"⟩
def dkwX6_holdsOut_3 : List UInt8 := [185, 0, 82, 4, 0, 172]
abbrev dktX6_holdsOut_3 : List UInt8 := dkwX6_holdsOut_3 ++ []
def dkwX6_holdsOut_2 : List UInt8 := [180, 0, 78, 42, 180, 0, 15, 27, 51, 50, 42, 180, 0, 19, 27, 51, 42, 180, 0, 54, 28]
abbrev dktX6_holdsOut_2 : List UInt8 := dkwX6_holdsOut_2 ++ dktX6_holdsOut_3
def dkwX6_holdsOut_1 : List UInt8 := [4, 100, 162, 0, 16, 42, 27, 4, 96, 182, 0, 67, 154, 0, 6, 132, 2, 1, 42, 180, 0, 3]
abbrev dktX6_holdsOut_1 : List UInt8 := dkwX6_holdsOut_1 ++ dktX6_holdsOut_2
def dkwX6_holdsOut_0 : List UInt8 := [3, 61, 27, 158, 0, 16, 42, 27, 4, 100, 182, 0, 67, 154, 0, 6, 132, 2, 1, 27, 42, 180, 0, 44]
abbrev dktX6_holdsOut_0 : List UInt8 := dkwX6_holdsOut_0 ++ dktX6_holdsOut_1
theorem dksX6_holdsOut_0 : cX6_holdsOut.data.toList.drop 0 = dktX6_holdsOut_0 := by decide +kernel
theorem dksX6_holdsOut_1 : cX6_holdsOut.data.toList.drop 24 = dktX6_holdsOut_1 := dk_seg dksX6_holdsOut_0 24 rfl rfl
theorem dksX6_holdsOut_2 : cX6_holdsOut.data.toList.drop 46 = dktX6_holdsOut_2 := dk_seg dksX6_holdsOut_1 22 rfl rfl
theorem dksX6_holdsOut_3 : cX6_holdsOut.data.toList.drop 67 = dktX6_holdsOut_3 := dk_seg dksX6_holdsOut_2 21 rfl rfl
theorem dX6_holdsOut_0 : decode cX6_holdsOut 0 = .ok (.iconst 0, 1) := dk_3 (dk_at dksX6_holdsOut_0 0 rfl rfl)
theorem dX6_holdsOut_1 : decode cX6_holdsOut 1 = .ok (.istore_n 2, 1) := dk_61 (dk_at dksX6_holdsOut_0 1 rfl rfl)
theorem dX6_holdsOut_2 : decode cX6_holdsOut 2 = .ok (.iload_n 1, 1) := dk_27 (dk_at dksX6_holdsOut_0 2 rfl rfl)
theorem dX6_holdsOut_3 : decode cX6_holdsOut 3 = .ok (.ifCond .le 16, 3) := dk_158 0 16 (dk_at dksX6_holdsOut_0 3 rfl rfl)
theorem dX6_holdsOut_6 : decode cX6_holdsOut 6 = .ok (.aload_n 0, 1) := dk_42 (dk_at dksX6_holdsOut_0 6 rfl rfl)
theorem dX6_holdsOut_7 : decode cX6_holdsOut 7 = .ok (.iload_n 1, 1) := dk_27 (dk_at dksX6_holdsOut_0 7 rfl rfl)
theorem dX6_holdsOut_8 : decode cX6_holdsOut 8 = .ok (.iconst 1, 1) := dk_4 (dk_at dksX6_holdsOut_0 8 rfl rfl)
theorem dX6_holdsOut_9 : decode cX6_holdsOut 9 = .ok (.isub, 1) := dk_100 (dk_at dksX6_holdsOut_0 9 rfl rfl)
theorem dX6_holdsOut_10 : decode cX6_holdsOut 10 = .ok (.invokevirtual 67, 3) := dk_182 0 67 (dk_at dksX6_holdsOut_0 10 rfl rfl)
theorem dX6_holdsOut_13 : decode cX6_holdsOut 13 = .ok (.ifCond .ne 6, 3) := dk_154 0 6 (dk_at dksX6_holdsOut_0 13 rfl rfl)
theorem dX6_holdsOut_16 : decode cX6_holdsOut 16 = .ok (.iinc 2 1, 3) := dk_132 2 1 (dk_at dksX6_holdsOut_0 16 rfl rfl)
theorem dX6_holdsOut_19 : decode cX6_holdsOut 19 = .ok (.iload_n 1, 1) := dk_27 (dk_at dksX6_holdsOut_0 19 rfl rfl)
theorem dX6_holdsOut_20 : decode cX6_holdsOut 20 = .ok (.aload_n 0, 1) := dk_42 (dk_at dksX6_holdsOut_0 20 rfl rfl)
theorem dX6_holdsOut_21 : decode cX6_holdsOut 21 = .ok (.getfield 44, 3) := dk_180 0 44 (dk_at dksX6_holdsOut_0 21 rfl rfl)
theorem dX6_holdsOut_24 : decode cX6_holdsOut 24 = .ok (.iconst 1, 1) := dk_4 (dk_at dksX6_holdsOut_1 0 rfl rfl)
theorem dX6_holdsOut_25 : decode cX6_holdsOut 25 = .ok (.isub, 1) := dk_100 (dk_at dksX6_holdsOut_1 1 rfl rfl)
theorem dX6_holdsOut_26 : decode cX6_holdsOut 26 = .ok (.if_icmp .ge 16, 3) := dk_162 0 16 (dk_at dksX6_holdsOut_1 2 rfl rfl)
theorem dX6_holdsOut_29 : decode cX6_holdsOut 29 = .ok (.aload_n 0, 1) := dk_42 (dk_at dksX6_holdsOut_1 5 rfl rfl)
theorem dX6_holdsOut_30 : decode cX6_holdsOut 30 = .ok (.iload_n 1, 1) := dk_27 (dk_at dksX6_holdsOut_1 6 rfl rfl)
theorem dX6_holdsOut_31 : decode cX6_holdsOut 31 = .ok (.iconst 1, 1) := dk_4 (dk_at dksX6_holdsOut_1 7 rfl rfl)
theorem dX6_holdsOut_32 : decode cX6_holdsOut 32 = .ok (.iadd, 1) := dk_96 (dk_at dksX6_holdsOut_1 8 rfl rfl)
theorem dX6_holdsOut_33 : decode cX6_holdsOut 33 = .ok (.invokevirtual 67, 3) := dk_182 0 67 (dk_at dksX6_holdsOut_1 9 rfl rfl)
theorem dX6_holdsOut_36 : decode cX6_holdsOut 36 = .ok (.ifCond .ne 6, 3) := dk_154 0 6 (dk_at dksX6_holdsOut_1 12 rfl rfl)
theorem dX6_holdsOut_39 : decode cX6_holdsOut 39 = .ok (.iinc 2 1, 3) := dk_132 2 1 (dk_at dksX6_holdsOut_1 15 rfl rfl)
theorem dX6_holdsOut_42 : decode cX6_holdsOut 42 = .ok (.aload_n 0, 1) := dk_42 (dk_at dksX6_holdsOut_1 18 rfl rfl)
theorem dX6_holdsOut_43 : decode cX6_holdsOut 43 = .ok (.getfield 3, 3) := dk_180 0 3 (dk_at dksX6_holdsOut_1 19 rfl rfl)
theorem dX6_holdsOut_46 : decode cX6_holdsOut 46 = .ok (.getfield 78, 3) := dk_180 0 78 (dk_at dksX6_holdsOut_2 0 rfl rfl)
theorem dX6_holdsOut_49 : decode cX6_holdsOut 49 = .ok (.aload_n 0, 1) := dk_42 (dk_at dksX6_holdsOut_2 3 rfl rfl)
theorem dX6_holdsOut_50 : decode cX6_holdsOut 50 = .ok (.getfield 15, 3) := dk_180 0 15 (dk_at dksX6_holdsOut_2 4 rfl rfl)
theorem dX6_holdsOut_53 : decode cX6_holdsOut 53 = .ok (.iload_n 1, 1) := dk_27 (dk_at dksX6_holdsOut_2 7 rfl rfl)
theorem dX6_holdsOut_54 : decode cX6_holdsOut 54 = .ok (.baload, 1) := dk_51 (dk_at dksX6_holdsOut_2 8 rfl rfl)
theorem dX6_holdsOut_55 : decode cX6_holdsOut 55 = .ok (.aaload, 1) := dk_50 (dk_at dksX6_holdsOut_2 9 rfl rfl)
theorem dX6_holdsOut_56 : decode cX6_holdsOut 56 = .ok (.aload_n 0, 1) := dk_42 (dk_at dksX6_holdsOut_2 10 rfl rfl)
theorem dX6_holdsOut_57 : decode cX6_holdsOut 57 = .ok (.getfield 19, 3) := dk_180 0 19 (dk_at dksX6_holdsOut_2 11 rfl rfl)
theorem dX6_holdsOut_60 : decode cX6_holdsOut 60 = .ok (.iload_n 1, 1) := dk_27 (dk_at dksX6_holdsOut_2 14 rfl rfl)
theorem dX6_holdsOut_61 : decode cX6_holdsOut 61 = .ok (.baload, 1) := dk_51 (dk_at dksX6_holdsOut_2 15 rfl rfl)
theorem dX6_holdsOut_62 : decode cX6_holdsOut 62 = .ok (.aload_n 0, 1) := dk_42 (dk_at dksX6_holdsOut_2 16 rfl rfl)
theorem dX6_holdsOut_63 : decode cX6_holdsOut 63 = .ok (.getfield 54, 3) := dk_180 0 54 (dk_at dksX6_holdsOut_2 17 rfl rfl)
theorem dX6_holdsOut_66 : decode cX6_holdsOut 66 = .ok (.iload_n 2, 1) := dk_28 (dk_at dksX6_holdsOut_2 20 rfl rfl)
theorem dX6_holdsOut_67 : decode cX6_holdsOut 67 = .ok (.invokeinterface 82 4, 5) := by decide +kernel
theorem dX6_holdsOut_72 : decode cX6_holdsOut 72 = .ok (.ireturn, 1) := dk_172 (dk_at dksX6_holdsOut_3 5 rfl rfl)
abbrev cX6_pulledBelow : ByteArray := prog_11_method_10_code
def yX6_pulledBelow : MethodName := ⟨RX6, "pulledBelow", "(I)J"⟩
def dkwX6_pulledBelow_1 : List UInt8 := [173]
abbrev dktX6_pulledBelow_1 : List UInt8 := dkwX6_pulledBelow_1 ++ []
def dkwX6_pulledBelow_0 : List UInt8 := [42, 27, 182, 0, 74, 133, 27, 154, 0, 7, 4, 167, 0, 11, 42, 180, 0, 35, 27, 4, 100, 46, 133, 105]
abbrev dktX6_pulledBelow_0 : List UInt8 := dkwX6_pulledBelow_0 ++ dktX6_pulledBelow_1
theorem dksX6_pulledBelow_0 : cX6_pulledBelow.data.toList.drop 0 = dktX6_pulledBelow_0 := by decide +kernel
theorem dksX6_pulledBelow_1 : cX6_pulledBelow.data.toList.drop 24 = dktX6_pulledBelow_1 := dk_seg dksX6_pulledBelow_0 24 rfl rfl
theorem dX6_pulledBelow_0 : decode cX6_pulledBelow 0 = .ok (.aload_n 0, 1) := dk_42 (dk_at dksX6_pulledBelow_0 0 rfl rfl)
theorem dX6_pulledBelow_1 : decode cX6_pulledBelow 1 = .ok (.iload_n 1, 1) := dk_27 (dk_at dksX6_pulledBelow_0 1 rfl rfl)
theorem dX6_pulledBelow_2 : decode cX6_pulledBelow 2 = .ok (.invokevirtual 74, 3) := dk_182 0 74 (dk_at dksX6_pulledBelow_0 2 rfl rfl)
theorem dX6_pulledBelow_5 : decode cX6_pulledBelow 5 = .ok (.i2l, 1) := dk_133 (dk_at dksX6_pulledBelow_0 5 rfl rfl)
theorem dX6_pulledBelow_6 : decode cX6_pulledBelow 6 = .ok (.iload_n 1, 1) := dk_27 (dk_at dksX6_pulledBelow_0 6 rfl rfl)
theorem dX6_pulledBelow_7 : decode cX6_pulledBelow 7 = .ok (.ifCond .ne 7, 3) := dk_154 0 7 (dk_at dksX6_pulledBelow_0 7 rfl rfl)
theorem dX6_pulledBelow_10 : decode cX6_pulledBelow 10 = .ok (.iconst 1, 1) := dk_4 (dk_at dksX6_pulledBelow_0 10 rfl rfl)
theorem dX6_pulledBelow_11 : decode cX6_pulledBelow 11 = .ok (.goto 11, 3) := dk_167 0 11 (dk_at dksX6_pulledBelow_0 11 rfl rfl)
theorem dX6_pulledBelow_14 : decode cX6_pulledBelow 14 = .ok (.aload_n 0, 1) := dk_42 (dk_at dksX6_pulledBelow_0 14 rfl rfl)
theorem dX6_pulledBelow_15 : decode cX6_pulledBelow 15 = .ok (.getfield 35, 3) := dk_180 0 35 (dk_at dksX6_pulledBelow_0 15 rfl rfl)
theorem dX6_pulledBelow_18 : decode cX6_pulledBelow 18 = .ok (.iload_n 1, 1) := dk_27 (dk_at dksX6_pulledBelow_0 18 rfl rfl)
theorem dX6_pulledBelow_19 : decode cX6_pulledBelow 19 = .ok (.iconst 1, 1) := dk_4 (dk_at dksX6_pulledBelow_0 19 rfl rfl)
theorem dX6_pulledBelow_20 : decode cX6_pulledBelow 20 = .ok (.isub, 1) := dk_100 (dk_at dksX6_pulledBelow_0 20 rfl rfl)
theorem dX6_pulledBelow_21 : decode cX6_pulledBelow 21 = .ok (.iaload, 1) := dk_46 (dk_at dksX6_pulledBelow_0 21 rfl rfl)
theorem dX6_pulledBelow_22 : decode cX6_pulledBelow 22 = .ok (.i2l, 1) := dk_133 (dk_at dksX6_pulledBelow_0 22 rfl rfl)
theorem dX6_pulledBelow_23 : decode cX6_pulledBelow 23 = .ok (.lmul, 1) := dk_105 (dk_at dksX6_pulledBelow_0 23 rfl rfl)
theorem dX6_pulledBelow_24 : decode cX6_pulledBelow 24 = .ok (.lreturn, 1) := dk_173 (dk_at dksX6_pulledBelow_1 0 rfl rfl)
abbrev cX6_lets : ByteArray := prog_11_method_14_code
def yX6_lets : MethodName := ⟨RX6, "lets", "(I)V"⟩
def dkwX6_lets_0 : List UInt8 := [42, 89, 180, 0, 48, 4, 27, 120, 2, 130, 126, 181, 0, 48, 177]
abbrev dktX6_lets_0 : List UInt8 := dkwX6_lets_0 ++ []
theorem dksX6_lets_0 : cX6_lets.data.toList.drop 0 = dktX6_lets_0 := by decide +kernel
theorem dX6_lets_0 : decode cX6_lets 0 = .ok (.aload_n 0, 1) := dk_42 (dk_at dksX6_lets_0 0 rfl rfl)
theorem dX6_lets_1 : decode cX6_lets 1 = .ok (.dup, 1) := dk_89 (dk_at dksX6_lets_0 1 rfl rfl)
theorem dX6_lets_2 : decode cX6_lets 2 = .ok (.getfield 48, 3) := dk_180 0 48 (dk_at dksX6_lets_0 2 rfl rfl)
theorem dX6_lets_5 : decode cX6_lets 5 = .ok (.iconst 1, 1) := dk_4 (dk_at dksX6_lets_0 5 rfl rfl)
theorem dX6_lets_6 : decode cX6_lets 6 = .ok (.iload_n 1, 1) := dk_27 (dk_at dksX6_lets_0 6 rfl rfl)
theorem dX6_lets_7 : decode cX6_lets 7 = .ok (.ishl, 1) := dk_120 (dk_at dksX6_lets_0 7 rfl rfl)
theorem dX6_lets_8 : decode cX6_lets 8 = .ok (.iconst (-1), 1) := dk_2 (dk_at dksX6_lets_0 8 rfl rfl)
theorem dX6_lets_9 : decode cX6_lets 9 = .ok (.ixor, 1) := dk_130 (dk_at dksX6_lets_0 9 rfl rfl)
theorem dX6_lets_10 : decode cX6_lets 10 = .ok (.iand, 1) := dk_126 (dk_at dksX6_lets_0 10 rfl rfl)
theorem dX6_lets_11 : decode cX6_lets 11 = .ok (.putfield 48, 3) := dk_181 0 48 (dk_at dksX6_lets_0 11 rfl rfl)
theorem dX6_lets_14 : decode cX6_lets 14 = .ok (.return_, 1) := dk_177 (dk_at dksX6_lets_0 14 rfl rfl)
abbrev cX6_placeOf : ByteArray := prog_11_method_13_code
def yX6_placeOf : MethodName := ⟨RX6, "placeOf", "(I)LOneElastic$Part;"⟩
def dkwX6_placeOf_7 : List UInt8 := [182, 0, 101, 176]
abbrev dktX6_placeOf_7 : List UInt8 := dkwX6_placeOf_7 ++ []
def dkwX6_placeOf_6 : List UInt8 := [167, 255, 212, 187, 0, 96, 89, 22, 6, 42, 180, 0, 35, 28, 46, 133, 183, 0, 98, 22, 4, 184, 0, 88]
abbrev dktX6_placeOf_6 : List UInt8 := dkwX6_placeOf_6 ++ dktX6_placeOf_7
def dkwX6_placeOf_5 : List UInt8 := [180, 0, 31, 21, 8, 46, 133, 42, 180, 0, 28, 21, 8, 51, 133, 105, 97, 55, 6, 132, 8, 1]
abbrev dktX6_placeOf_5 : List UInt8 := dkwX6_placeOf_5 ++ dktX6_placeOf_6
def dkwX6_placeOf_4 : List UInt8 := [54, 8, 21, 8, 27, 162, 0, 44, 22, 4, 42, 180, 0, 25, 21, 8, 51, 133, 97, 55, 4, 22, 6, 42]
abbrev dktX6_placeOf_4 : List UInt8 := dkwX6_placeOf_4 ++ dktX6_placeOf_5
def dkwX6_placeOf_3 : List UInt8 := [16, 252, 159, 0, 12, 42, 180, 0, 31, 28, 46, 154, 0, 9, 22, 4, 184, 0, 88, 176, 9, 55, 6, 28]
abbrev dktX6_placeOf_3 : List UInt8 := dkwX6_placeOf_3 ++ dktX6_placeOf_4
def dkwX6_placeOf_2 : List UInt8 := [167, 0, 10, 42, 180, 0, 22, 29, 51, 133, 184, 0, 88, 176, 42, 180, 0, 22, 28, 51, 133, 55, 4, 29]
abbrev dktX6_placeOf_2 : List UInt8 := dkwX6_placeOf_2 ++ dktX6_placeOf_3
def dkwX6_placeOf_1 : List UInt8 := [182, 0, 92, 61, 42, 27, 4, 182, 0, 92, 62, 28, 16, 252, 160, 0, 24, 29, 16, 252, 160, 0, 7, 9]
abbrev dktX6_placeOf_1 : List UInt8 := dkwX6_placeOf_1 ++ dktX6_placeOf_2
def dkwX6_placeOf_0 : List UInt8 := [42, 27, 182, 0, 67, 153, 0, 14, 42, 180, 0, 22, 27, 51, 133, 184, 0, 88, 176, 42, 27, 2]
abbrev dktX6_placeOf_0 : List UInt8 := dkwX6_placeOf_0 ++ dktX6_placeOf_1
theorem dksX6_placeOf_0 : cX6_placeOf.data.toList.drop 0 = dktX6_placeOf_0 := by decide +kernel
theorem dksX6_placeOf_1 : cX6_placeOf.data.toList.drop 22 = dktX6_placeOf_1 := dk_seg dksX6_placeOf_0 22 rfl rfl
theorem dksX6_placeOf_2 : cX6_placeOf.data.toList.drop 46 = dktX6_placeOf_2 := dk_seg dksX6_placeOf_1 24 rfl rfl
theorem dksX6_placeOf_3 : cX6_placeOf.data.toList.drop 70 = dktX6_placeOf_3 := dk_seg dksX6_placeOf_2 24 rfl rfl
theorem dksX6_placeOf_4 : cX6_placeOf.data.toList.drop 94 = dktX6_placeOf_4 := dk_seg dksX6_placeOf_3 24 rfl rfl
theorem dksX6_placeOf_5 : cX6_placeOf.data.toList.drop 118 = dktX6_placeOf_5 := dk_seg dksX6_placeOf_4 24 rfl rfl
theorem dksX6_placeOf_6 : cX6_placeOf.data.toList.drop 140 = dktX6_placeOf_6 := dk_seg dksX6_placeOf_5 22 rfl rfl
theorem dksX6_placeOf_7 : cX6_placeOf.data.toList.drop 164 = dktX6_placeOf_7 := dk_seg dksX6_placeOf_6 24 rfl rfl
theorem dX6_placeOf_0 : decode cX6_placeOf 0 = .ok (.aload_n 0, 1) := dk_42 (dk_at dksX6_placeOf_0 0 rfl rfl)
theorem dX6_placeOf_1 : decode cX6_placeOf 1 = .ok (.iload_n 1, 1) := dk_27 (dk_at dksX6_placeOf_0 1 rfl rfl)
theorem dX6_placeOf_2 : decode cX6_placeOf 2 = .ok (.invokevirtual 67, 3) := dk_182 0 67 (dk_at dksX6_placeOf_0 2 rfl rfl)
theorem dX6_placeOf_5 : decode cX6_placeOf 5 = .ok (.ifCond .eq 14, 3) := dk_153 0 14 (dk_at dksX6_placeOf_0 5 rfl rfl)
theorem dX6_placeOf_8 : decode cX6_placeOf 8 = .ok (.aload_n 0, 1) := dk_42 (dk_at dksX6_placeOf_0 8 rfl rfl)
theorem dX6_placeOf_9 : decode cX6_placeOf 9 = .ok (.getfield 22, 3) := dk_180 0 22 (dk_at dksX6_placeOf_0 9 rfl rfl)
theorem dX6_placeOf_12 : decode cX6_placeOf 12 = .ok (.iload_n 1, 1) := dk_27 (dk_at dksX6_placeOf_0 12 rfl rfl)
theorem dX6_placeOf_13 : decode cX6_placeOf 13 = .ok (.baload, 1) := dk_51 (dk_at dksX6_placeOf_0 13 rfl rfl)
theorem dX6_placeOf_14 : decode cX6_placeOf 14 = .ok (.i2l, 1) := dk_133 (dk_at dksX6_placeOf_0 14 rfl rfl)
theorem dX6_placeOf_15 : decode cX6_placeOf 15 = .ok (.invokestatic 88, 3) := dk_184 0 88 (dk_at dksX6_placeOf_0 15 rfl rfl)
theorem dX6_placeOf_18 : decode cX6_placeOf 18 = .ok (.areturn, 1) := dk_176 (dk_at dksX6_placeOf_0 18 rfl rfl)
theorem dX6_placeOf_19 : decode cX6_placeOf 19 = .ok (.aload_n 0, 1) := dk_42 (dk_at dksX6_placeOf_0 19 rfl rfl)
theorem dX6_placeOf_20 : decode cX6_placeOf 20 = .ok (.iload_n 1, 1) := dk_27 (dk_at dksX6_placeOf_0 20 rfl rfl)
theorem dX6_placeOf_21 : decode cX6_placeOf 21 = .ok (.iconst (-1), 1) := dk_2 (dk_at dksX6_placeOf_0 21 rfl rfl)
theorem dX6_placeOf_22 : decode cX6_placeOf 22 = .ok (.invokevirtual 92, 3) := dk_182 0 92 (dk_at dksX6_placeOf_1 0 rfl rfl)
theorem dX6_placeOf_25 : decode cX6_placeOf 25 = .ok (.istore_n 2, 1) := dk_61 (dk_at dksX6_placeOf_1 3 rfl rfl)
theorem dX6_placeOf_26 : decode cX6_placeOf 26 = .ok (.aload_n 0, 1) := dk_42 (dk_at dksX6_placeOf_1 4 rfl rfl)
theorem dX6_placeOf_27 : decode cX6_placeOf 27 = .ok (.iload_n 1, 1) := dk_27 (dk_at dksX6_placeOf_1 5 rfl rfl)
theorem dX6_placeOf_28 : decode cX6_placeOf 28 = .ok (.iconst 1, 1) := dk_4 (dk_at dksX6_placeOf_1 6 rfl rfl)
theorem dX6_placeOf_29 : decode cX6_placeOf 29 = .ok (.invokevirtual 92, 3) := dk_182 0 92 (dk_at dksX6_placeOf_1 7 rfl rfl)
theorem dX6_placeOf_32 : decode cX6_placeOf 32 = .ok (.istore_n 3, 1) := dk_62 (dk_at dksX6_placeOf_1 10 rfl rfl)
theorem dX6_placeOf_33 : decode cX6_placeOf 33 = .ok (.iload_n 2, 1) := dk_28 (dk_at dksX6_placeOf_1 11 rfl rfl)
theorem dX6_placeOf_34 : decode cX6_placeOf 34 = .ok (.bipush (-4), 2) := dk_16 252 (dk_at dksX6_placeOf_1 12 rfl rfl)
theorem dX6_placeOf_36 : decode cX6_placeOf 36 = .ok (.if_icmp .ne 24, 3) := dk_160 0 24 (dk_at dksX6_placeOf_1 14 rfl rfl)
theorem dX6_placeOf_39 : decode cX6_placeOf 39 = .ok (.iload_n 3, 1) := dk_29 (dk_at dksX6_placeOf_1 17 rfl rfl)
theorem dX6_placeOf_40 : decode cX6_placeOf 40 = .ok (.bipush (-4), 2) := dk_16 252 (dk_at dksX6_placeOf_1 18 rfl rfl)
theorem dX6_placeOf_42 : decode cX6_placeOf 42 = .ok (.if_icmp .ne 7, 3) := dk_160 0 7 (dk_at dksX6_placeOf_1 20 rfl rfl)
theorem dX6_placeOf_45 : decode cX6_placeOf 45 = .ok (.lconst 0, 1) := dk_9 (dk_at dksX6_placeOf_1 23 rfl rfl)
theorem dX6_placeOf_46 : decode cX6_placeOf 46 = .ok (.goto 10, 3) := dk_167 0 10 (dk_at dksX6_placeOf_2 0 rfl rfl)
theorem dX6_placeOf_49 : decode cX6_placeOf 49 = .ok (.aload_n 0, 1) := dk_42 (dk_at dksX6_placeOf_2 3 rfl rfl)
theorem dX6_placeOf_50 : decode cX6_placeOf 50 = .ok (.getfield 22, 3) := dk_180 0 22 (dk_at dksX6_placeOf_2 4 rfl rfl)
theorem dX6_placeOf_53 : decode cX6_placeOf 53 = .ok (.iload_n 3, 1) := dk_29 (dk_at dksX6_placeOf_2 7 rfl rfl)
theorem dX6_placeOf_54 : decode cX6_placeOf 54 = .ok (.baload, 1) := dk_51 (dk_at dksX6_placeOf_2 8 rfl rfl)
theorem dX6_placeOf_55 : decode cX6_placeOf 55 = .ok (.i2l, 1) := dk_133 (dk_at dksX6_placeOf_2 9 rfl rfl)
theorem dX6_placeOf_56 : decode cX6_placeOf 56 = .ok (.invokestatic 88, 3) := dk_184 0 88 (dk_at dksX6_placeOf_2 10 rfl rfl)
theorem dX6_placeOf_59 : decode cX6_placeOf 59 = .ok (.areturn, 1) := dk_176 (dk_at dksX6_placeOf_2 13 rfl rfl)
theorem dX6_placeOf_60 : decode cX6_placeOf 60 = .ok (.aload_n 0, 1) := dk_42 (dk_at dksX6_placeOf_2 14 rfl rfl)
theorem dX6_placeOf_61 : decode cX6_placeOf 61 = .ok (.getfield 22, 3) := dk_180 0 22 (dk_at dksX6_placeOf_2 15 rfl rfl)
theorem dX6_placeOf_64 : decode cX6_placeOf 64 = .ok (.iload_n 2, 1) := dk_28 (dk_at dksX6_placeOf_2 18 rfl rfl)
theorem dX6_placeOf_65 : decode cX6_placeOf 65 = .ok (.baload, 1) := dk_51 (dk_at dksX6_placeOf_2 19 rfl rfl)
theorem dX6_placeOf_66 : decode cX6_placeOf 66 = .ok (.i2l, 1) := dk_133 (dk_at dksX6_placeOf_2 20 rfl rfl)
theorem dX6_placeOf_67 : decode cX6_placeOf 67 = .ok (.lstore 4, 2) := dk_55 4 (dk_at dksX6_placeOf_2 21 rfl rfl)
theorem dX6_placeOf_69 : decode cX6_placeOf 69 = .ok (.iload_n 3, 1) := dk_29 (dk_at dksX6_placeOf_2 23 rfl rfl)
theorem dX6_placeOf_70 : decode cX6_placeOf 70 = .ok (.bipush (-4), 2) := dk_16 252 (dk_at dksX6_placeOf_3 0 rfl rfl)
theorem dX6_placeOf_72 : decode cX6_placeOf 72 = .ok (.if_icmp .eq 12, 3) := dk_159 0 12 (dk_at dksX6_placeOf_3 2 rfl rfl)
theorem dX6_placeOf_75 : decode cX6_placeOf 75 = .ok (.aload_n 0, 1) := dk_42 (dk_at dksX6_placeOf_3 5 rfl rfl)
theorem dX6_placeOf_76 : decode cX6_placeOf 76 = .ok (.getfield 31, 3) := dk_180 0 31 (dk_at dksX6_placeOf_3 6 rfl rfl)
theorem dX6_placeOf_79 : decode cX6_placeOf 79 = .ok (.iload_n 2, 1) := dk_28 (dk_at dksX6_placeOf_3 9 rfl rfl)
theorem dX6_placeOf_80 : decode cX6_placeOf 80 = .ok (.iaload, 1) := dk_46 (dk_at dksX6_placeOf_3 10 rfl rfl)
theorem dX6_placeOf_81 : decode cX6_placeOf 81 = .ok (.ifCond .ne 9, 3) := dk_154 0 9 (dk_at dksX6_placeOf_3 11 rfl rfl)
theorem dX6_placeOf_84 : decode cX6_placeOf 84 = .ok (.lload 4, 2) := dk_22 4 (dk_at dksX6_placeOf_3 14 rfl rfl)
theorem dX6_placeOf_86 : decode cX6_placeOf 86 = .ok (.invokestatic 88, 3) := dk_184 0 88 (dk_at dksX6_placeOf_3 16 rfl rfl)
theorem dX6_placeOf_89 : decode cX6_placeOf 89 = .ok (.areturn, 1) := dk_176 (dk_at dksX6_placeOf_3 19 rfl rfl)
theorem dX6_placeOf_90 : decode cX6_placeOf 90 = .ok (.lconst 0, 1) := dk_9 (dk_at dksX6_placeOf_3 20 rfl rfl)
theorem dX6_placeOf_91 : decode cX6_placeOf 91 = .ok (.lstore 6, 2) := dk_55 6 (dk_at dksX6_placeOf_3 21 rfl rfl)
theorem dX6_placeOf_93 : decode cX6_placeOf 93 = .ok (.iload_n 2, 1) := dk_28 (dk_at dksX6_placeOf_3 23 rfl rfl)
theorem dX6_placeOf_94 : decode cX6_placeOf 94 = .ok (.istore 8, 2) := dk_54 8 (dk_at dksX6_placeOf_4 0 rfl rfl)
theorem dX6_placeOf_96 : decode cX6_placeOf 96 = .ok (.iload 8, 2) := dk_21 8 (dk_at dksX6_placeOf_4 2 rfl rfl)
theorem dX6_placeOf_98 : decode cX6_placeOf 98 = .ok (.iload_n 1, 1) := dk_27 (dk_at dksX6_placeOf_4 4 rfl rfl)
theorem dX6_placeOf_99 : decode cX6_placeOf 99 = .ok (.if_icmp .ge 44, 3) := dk_162 0 44 (dk_at dksX6_placeOf_4 5 rfl rfl)
theorem dX6_placeOf_102 : decode cX6_placeOf 102 = .ok (.lload 4, 2) := dk_22 4 (dk_at dksX6_placeOf_4 8 rfl rfl)
theorem dX6_placeOf_104 : decode cX6_placeOf 104 = .ok (.aload_n 0, 1) := dk_42 (dk_at dksX6_placeOf_4 10 rfl rfl)
theorem dX6_placeOf_105 : decode cX6_placeOf 105 = .ok (.getfield 25, 3) := dk_180 0 25 (dk_at dksX6_placeOf_4 11 rfl rfl)
theorem dX6_placeOf_108 : decode cX6_placeOf 108 = .ok (.iload 8, 2) := dk_21 8 (dk_at dksX6_placeOf_4 14 rfl rfl)
theorem dX6_placeOf_110 : decode cX6_placeOf 110 = .ok (.baload, 1) := dk_51 (dk_at dksX6_placeOf_4 16 rfl rfl)
theorem dX6_placeOf_111 : decode cX6_placeOf 111 = .ok (.i2l, 1) := dk_133 (dk_at dksX6_placeOf_4 17 rfl rfl)
theorem dX6_placeOf_112 : decode cX6_placeOf 112 = .ok (.ladd, 1) := dk_97 (dk_at dksX6_placeOf_4 18 rfl rfl)
theorem dX6_placeOf_113 : decode cX6_placeOf 113 = .ok (.lstore 4, 2) := dk_55 4 (dk_at dksX6_placeOf_4 19 rfl rfl)
theorem dX6_placeOf_115 : decode cX6_placeOf 115 = .ok (.lload 6, 2) := dk_22 6 (dk_at dksX6_placeOf_4 21 rfl rfl)
theorem dX6_placeOf_117 : decode cX6_placeOf 117 = .ok (.aload_n 0, 1) := dk_42 (dk_at dksX6_placeOf_4 23 rfl rfl)
theorem dX6_placeOf_118 : decode cX6_placeOf 118 = .ok (.getfield 31, 3) := dk_180 0 31 (dk_at dksX6_placeOf_5 0 rfl rfl)
theorem dX6_placeOf_121 : decode cX6_placeOf 121 = .ok (.iload 8, 2) := dk_21 8 (dk_at dksX6_placeOf_5 3 rfl rfl)
theorem dX6_placeOf_123 : decode cX6_placeOf 123 = .ok (.iaload, 1) := dk_46 (dk_at dksX6_placeOf_5 5 rfl rfl)
theorem dX6_placeOf_124 : decode cX6_placeOf 124 = .ok (.i2l, 1) := dk_133 (dk_at dksX6_placeOf_5 6 rfl rfl)
theorem dX6_placeOf_125 : decode cX6_placeOf 125 = .ok (.aload_n 0, 1) := dk_42 (dk_at dksX6_placeOf_5 7 rfl rfl)
theorem dX6_placeOf_126 : decode cX6_placeOf 126 = .ok (.getfield 28, 3) := dk_180 0 28 (dk_at dksX6_placeOf_5 8 rfl rfl)
theorem dX6_placeOf_129 : decode cX6_placeOf 129 = .ok (.iload 8, 2) := dk_21 8 (dk_at dksX6_placeOf_5 11 rfl rfl)
theorem dX6_placeOf_131 : decode cX6_placeOf 131 = .ok (.baload, 1) := dk_51 (dk_at dksX6_placeOf_5 13 rfl rfl)
theorem dX6_placeOf_132 : decode cX6_placeOf 132 = .ok (.i2l, 1) := dk_133 (dk_at dksX6_placeOf_5 14 rfl rfl)
theorem dX6_placeOf_133 : decode cX6_placeOf 133 = .ok (.lmul, 1) := dk_105 (dk_at dksX6_placeOf_5 15 rfl rfl)
theorem dX6_placeOf_134 : decode cX6_placeOf 134 = .ok (.ladd, 1) := dk_97 (dk_at dksX6_placeOf_5 16 rfl rfl)
theorem dX6_placeOf_135 : decode cX6_placeOf 135 = .ok (.lstore 6, 2) := dk_55 6 (dk_at dksX6_placeOf_5 17 rfl rfl)
theorem dX6_placeOf_137 : decode cX6_placeOf 137 = .ok (.iinc 8 1, 3) := dk_132 8 1 (dk_at dksX6_placeOf_5 19 rfl rfl)
theorem dX6_placeOf_140 : decode cX6_placeOf 140 = .ok (.goto (-44), 3) := dk_167 255 212 (dk_at dksX6_placeOf_6 0 rfl rfl)
theorem dX6_placeOf_143 : decode cX6_placeOf 143 = .ok (.new 96, 3) := dk_187 0 96 (dk_at dksX6_placeOf_6 3 rfl rfl)
theorem dX6_placeOf_146 : decode cX6_placeOf 146 = .ok (.dup, 1) := dk_89 (dk_at dksX6_placeOf_6 6 rfl rfl)
theorem dX6_placeOf_147 : decode cX6_placeOf 147 = .ok (.lload 6, 2) := dk_22 6 (dk_at dksX6_placeOf_6 7 rfl rfl)
theorem dX6_placeOf_149 : decode cX6_placeOf 149 = .ok (.aload_n 0, 1) := dk_42 (dk_at dksX6_placeOf_6 9 rfl rfl)
theorem dX6_placeOf_150 : decode cX6_placeOf 150 = .ok (.getfield 35, 3) := dk_180 0 35 (dk_at dksX6_placeOf_6 10 rfl rfl)
theorem dX6_placeOf_153 : decode cX6_placeOf 153 = .ok (.iload_n 2, 1) := dk_28 (dk_at dksX6_placeOf_6 13 rfl rfl)
theorem dX6_placeOf_154 : decode cX6_placeOf 154 = .ok (.iaload, 1) := dk_46 (dk_at dksX6_placeOf_6 14 rfl rfl)
theorem dX6_placeOf_155 : decode cX6_placeOf 155 = .ok (.i2l, 1) := dk_133 (dk_at dksX6_placeOf_6 15 rfl rfl)
theorem dX6_placeOf_156 : decode cX6_placeOf 156 = .ok (.invokespecial 98, 3) := dk_183 0 98 (dk_at dksX6_placeOf_6 16 rfl rfl)
theorem dX6_placeOf_159 : decode cX6_placeOf 159 = .ok (.lload 4, 2) := dk_22 4 (dk_at dksX6_placeOf_6 19 rfl rfl)
theorem dX6_placeOf_161 : decode cX6_placeOf 161 = .ok (.invokestatic 88, 3) := dk_184 0 88 (dk_at dksX6_placeOf_6 21 rfl rfl)
theorem dX6_placeOf_164 : decode cX6_placeOf 164 = .ok (.invokevirtual 101, 3) := dk_182 0 101 (dk_at dksX6_placeOf_7 0 rfl rfl)
theorem dX6_placeOf_167 : decode cX6_placeOf 167 = .ok (.areturn, 1) := dk_176 (dk_at dksX6_placeOf_7 3 rfl rfl)
abbrev cX6_next : ByteArray := prog_11_method_5_code
def yX6_next : MethodName := ⟨RX6, "next", "(II)I"⟩
def dkwX6_next_2 : List UInt8 := [153, 0, 5, 29, 172, 167, 255, 205]
abbrev dktX6_next_2 : List UInt8 := dkwX6_next_2 ++ []
def dkwX6_next_1 : List UInt8 := [42, 180, 0, 44, 162, 0, 12, 42, 21, 4, 182, 0, 63, 153, 0, 6, 16, 252, 172, 42, 29, 182, 0, 67]
abbrev dktX6_next_1 : List UInt8 := dkwX6_next_1 ++ dktX6_next_2
def dkwX6_next_0 : List UInt8 := [27, 62, 28, 156, 0, 9, 29, 4, 100, 167, 0, 4, 29, 54, 4, 29, 28, 96, 62, 29, 155, 0, 20, 29]
abbrev dktX6_next_0 : List UInt8 := dkwX6_next_0 ++ dktX6_next_1
theorem dksX6_next_0 : cX6_next.data.toList.drop 0 = dktX6_next_0 := by decide +kernel
theorem dksX6_next_1 : cX6_next.data.toList.drop 24 = dktX6_next_1 := dk_seg dksX6_next_0 24 rfl rfl
theorem dksX6_next_2 : cX6_next.data.toList.drop 48 = dktX6_next_2 := dk_seg dksX6_next_1 24 rfl rfl
theorem dX6_next_0 : decode cX6_next 0 = .ok (.iload_n 1, 1) := dk_27 (dk_at dksX6_next_0 0 rfl rfl)
theorem dX6_next_1 : decode cX6_next 1 = .ok (.istore_n 3, 1) := dk_62 (dk_at dksX6_next_0 1 rfl rfl)
theorem dX6_next_2 : decode cX6_next 2 = .ok (.iload_n 2, 1) := dk_28 (dk_at dksX6_next_0 2 rfl rfl)
theorem dX6_next_3 : decode cX6_next 3 = .ok (.ifCond .ge 9, 3) := dk_156 0 9 (dk_at dksX6_next_0 3 rfl rfl)
theorem dX6_next_6 : decode cX6_next 6 = .ok (.iload_n 3, 1) := dk_29 (dk_at dksX6_next_0 6 rfl rfl)
theorem dX6_next_7 : decode cX6_next 7 = .ok (.iconst 1, 1) := dk_4 (dk_at dksX6_next_0 7 rfl rfl)
theorem dX6_next_8 : decode cX6_next 8 = .ok (.isub, 1) := dk_100 (dk_at dksX6_next_0 8 rfl rfl)
theorem dX6_next_9 : decode cX6_next 9 = .ok (.goto 4, 3) := dk_167 0 4 (dk_at dksX6_next_0 9 rfl rfl)
theorem dX6_next_12 : decode cX6_next 12 = .ok (.iload_n 3, 1) := dk_29 (dk_at dksX6_next_0 12 rfl rfl)
theorem dX6_next_13 : decode cX6_next 13 = .ok (.istore 4, 2) := dk_54 4 (dk_at dksX6_next_0 13 rfl rfl)
theorem dX6_next_15 : decode cX6_next 15 = .ok (.iload_n 3, 1) := dk_29 (dk_at dksX6_next_0 15 rfl rfl)
theorem dX6_next_16 : decode cX6_next 16 = .ok (.iload_n 2, 1) := dk_28 (dk_at dksX6_next_0 16 rfl rfl)
theorem dX6_next_17 : decode cX6_next 17 = .ok (.iadd, 1) := dk_96 (dk_at dksX6_next_0 17 rfl rfl)
theorem dX6_next_18 : decode cX6_next 18 = .ok (.istore_n 3, 1) := dk_62 (dk_at dksX6_next_0 18 rfl rfl)
theorem dX6_next_19 : decode cX6_next 19 = .ok (.iload_n 3, 1) := dk_29 (dk_at dksX6_next_0 19 rfl rfl)
theorem dX6_next_20 : decode cX6_next 20 = .ok (.ifCond .lt 20, 3) := dk_155 0 20 (dk_at dksX6_next_0 20 rfl rfl)
theorem dX6_next_23 : decode cX6_next 23 = .ok (.iload_n 3, 1) := dk_29 (dk_at dksX6_next_0 23 rfl rfl)
theorem dX6_next_24 : decode cX6_next 24 = .ok (.aload_n 0, 1) := dk_42 (dk_at dksX6_next_1 0 rfl rfl)
theorem dX6_next_25 : decode cX6_next 25 = .ok (.getfield 44, 3) := dk_180 0 44 (dk_at dksX6_next_1 1 rfl rfl)
theorem dX6_next_28 : decode cX6_next 28 = .ok (.if_icmp .ge 12, 3) := dk_162 0 12 (dk_at dksX6_next_1 4 rfl rfl)
theorem dX6_next_31 : decode cX6_next 31 = .ok (.aload_n 0, 1) := dk_42 (dk_at dksX6_next_1 7 rfl rfl)
theorem dX6_next_32 : decode cX6_next 32 = .ok (.iload 4, 2) := dk_21 4 (dk_at dksX6_next_1 8 rfl rfl)
theorem dX6_next_34 : decode cX6_next 34 = .ok (.invokevirtual 63, 3) := dk_182 0 63 (dk_at dksX6_next_1 10 rfl rfl)
theorem dX6_next_37 : decode cX6_next 37 = .ok (.ifCond .eq 6, 3) := dk_153 0 6 (dk_at dksX6_next_1 13 rfl rfl)
theorem dX6_next_40 : decode cX6_next 40 = .ok (.bipush (-4), 2) := dk_16 252 (dk_at dksX6_next_1 16 rfl rfl)
theorem dX6_next_42 : decode cX6_next 42 = .ok (.ireturn, 1) := dk_172 (dk_at dksX6_next_1 18 rfl rfl)
theorem dX6_next_43 : decode cX6_next 43 = .ok (.aload_n 0, 1) := dk_42 (dk_at dksX6_next_1 19 rfl rfl)
theorem dX6_next_44 : decode cX6_next 44 = .ok (.iload_n 3, 1) := dk_29 (dk_at dksX6_next_1 20 rfl rfl)
theorem dX6_next_45 : decode cX6_next 45 = .ok (.invokevirtual 67, 3) := dk_182 0 67 (dk_at dksX6_next_1 21 rfl rfl)
theorem dX6_next_48 : decode cX6_next 48 = .ok (.ifCond .eq 5, 3) := dk_153 0 5 (dk_at dksX6_next_2 0 rfl rfl)
theorem dX6_next_51 : decode cX6_next 51 = .ok (.iload_n 3, 1) := dk_29 (dk_at dksX6_next_2 3 rfl rfl)
theorem dX6_next_52 : decode cX6_next 52 = .ok (.ireturn, 1) := dk_172 (dk_at dksX6_next_2 4 rfl rfl)
theorem dX6_next_53 : decode cX6_next 53 = .ok (.goto (-51), 3) := dk_167 255 205 (dk_at dksX6_next_2 5 rfl rfl)
abbrev cX6_greatest : ByteArray := prog_11_method_11_code
def yX6_greatest : MethodName := ⟨RX6, "greatest", "()I"⟩
def dkwX6_greatest_2 : List UInt8 := [180, 0, 35, 29, 46, 61, 132, 3, 1, 167, 255, 207, 27, 16, 64, 104, 28, 96, 172]
abbrev dktX6_greatest_2 : List UInt8 := dkwX6_greatest_2 ++ []
def dkwX6_greatest_1 : List UInt8 := [27, 42, 180, 0, 35, 29, 46, 104, 163, 0, 6, 167, 0, 17, 42, 180, 0, 31, 29, 46, 60, 42]
abbrev dktX6_greatest_1 : List UInt8 := dkwX6_greatest_1 ++ dktX6_greatest_2
def dkwX6_greatest_0 : List UInt8 := [3, 60, 4, 61, 3, 62, 29, 42, 180, 0, 44, 4, 100, 162, 0, 45, 42, 180, 0, 31, 29, 46, 28, 104]
abbrev dktX6_greatest_0 : List UInt8 := dkwX6_greatest_0 ++ dktX6_greatest_1
theorem dksX6_greatest_0 : cX6_greatest.data.toList.drop 0 = dktX6_greatest_0 := by decide +kernel
theorem dksX6_greatest_1 : cX6_greatest.data.toList.drop 24 = dktX6_greatest_1 := dk_seg dksX6_greatest_0 24 rfl rfl
theorem dksX6_greatest_2 : cX6_greatest.data.toList.drop 46 = dktX6_greatest_2 := dk_seg dksX6_greatest_1 22 rfl rfl
theorem dX6_greatest_0 : decode cX6_greatest 0 = .ok (.iconst 0, 1) := dk_3 (dk_at dksX6_greatest_0 0 rfl rfl)
theorem dX6_greatest_1 : decode cX6_greatest 1 = .ok (.istore_n 1, 1) := dk_60 (dk_at dksX6_greatest_0 1 rfl rfl)
theorem dX6_greatest_2 : decode cX6_greatest 2 = .ok (.iconst 1, 1) := dk_4 (dk_at dksX6_greatest_0 2 rfl rfl)
theorem dX6_greatest_3 : decode cX6_greatest 3 = .ok (.istore_n 2, 1) := dk_61 (dk_at dksX6_greatest_0 3 rfl rfl)
theorem dX6_greatest_4 : decode cX6_greatest 4 = .ok (.iconst 0, 1) := dk_3 (dk_at dksX6_greatest_0 4 rfl rfl)
theorem dX6_greatest_5 : decode cX6_greatest 5 = .ok (.istore_n 3, 1) := dk_62 (dk_at dksX6_greatest_0 5 rfl rfl)
theorem dX6_greatest_6 : decode cX6_greatest 6 = .ok (.iload_n 3, 1) := dk_29 (dk_at dksX6_greatest_0 6 rfl rfl)
theorem dX6_greatest_7 : decode cX6_greatest 7 = .ok (.aload_n 0, 1) := dk_42 (dk_at dksX6_greatest_0 7 rfl rfl)
theorem dX6_greatest_8 : decode cX6_greatest 8 = .ok (.getfield 44, 3) := dk_180 0 44 (dk_at dksX6_greatest_0 8 rfl rfl)
theorem dX6_greatest_11 : decode cX6_greatest 11 = .ok (.iconst 1, 1) := dk_4 (dk_at dksX6_greatest_0 11 rfl rfl)
theorem dX6_greatest_12 : decode cX6_greatest 12 = .ok (.isub, 1) := dk_100 (dk_at dksX6_greatest_0 12 rfl rfl)
theorem dX6_greatest_13 : decode cX6_greatest 13 = .ok (.if_icmp .ge 45, 3) := dk_162 0 45 (dk_at dksX6_greatest_0 13 rfl rfl)
theorem dX6_greatest_16 : decode cX6_greatest 16 = .ok (.aload_n 0, 1) := dk_42 (dk_at dksX6_greatest_0 16 rfl rfl)
theorem dX6_greatest_17 : decode cX6_greatest 17 = .ok (.getfield 31, 3) := dk_180 0 31 (dk_at dksX6_greatest_0 17 rfl rfl)
theorem dX6_greatest_20 : decode cX6_greatest 20 = .ok (.iload_n 3, 1) := dk_29 (dk_at dksX6_greatest_0 20 rfl rfl)
theorem dX6_greatest_21 : decode cX6_greatest 21 = .ok (.iaload, 1) := dk_46 (dk_at dksX6_greatest_0 21 rfl rfl)
theorem dX6_greatest_22 : decode cX6_greatest 22 = .ok (.iload_n 2, 1) := dk_28 (dk_at dksX6_greatest_0 22 rfl rfl)
theorem dX6_greatest_23 : decode cX6_greatest 23 = .ok (.imul, 1) := dk_104 (dk_at dksX6_greatest_0 23 rfl rfl)
theorem dX6_greatest_24 : decode cX6_greatest 24 = .ok (.iload_n 1, 1) := dk_27 (dk_at dksX6_greatest_1 0 rfl rfl)
theorem dX6_greatest_25 : decode cX6_greatest 25 = .ok (.aload_n 0, 1) := dk_42 (dk_at dksX6_greatest_1 1 rfl rfl)
theorem dX6_greatest_26 : decode cX6_greatest 26 = .ok (.getfield 35, 3) := dk_180 0 35 (dk_at dksX6_greatest_1 2 rfl rfl)
theorem dX6_greatest_29 : decode cX6_greatest 29 = .ok (.iload_n 3, 1) := dk_29 (dk_at dksX6_greatest_1 5 rfl rfl)
theorem dX6_greatest_30 : decode cX6_greatest 30 = .ok (.iaload, 1) := dk_46 (dk_at dksX6_greatest_1 6 rfl rfl)
theorem dX6_greatest_31 : decode cX6_greatest 31 = .ok (.imul, 1) := dk_104 (dk_at dksX6_greatest_1 7 rfl rfl)
theorem dX6_greatest_32 : decode cX6_greatest 32 = .ok (.if_icmp .gt 6, 3) := dk_163 0 6 (dk_at dksX6_greatest_1 8 rfl rfl)
theorem dX6_greatest_35 : decode cX6_greatest 35 = .ok (.goto 17, 3) := dk_167 0 17 (dk_at dksX6_greatest_1 11 rfl rfl)
theorem dX6_greatest_38 : decode cX6_greatest 38 = .ok (.aload_n 0, 1) := dk_42 (dk_at dksX6_greatest_1 14 rfl rfl)
theorem dX6_greatest_39 : decode cX6_greatest 39 = .ok (.getfield 31, 3) := dk_180 0 31 (dk_at dksX6_greatest_1 15 rfl rfl)
theorem dX6_greatest_42 : decode cX6_greatest 42 = .ok (.iload_n 3, 1) := dk_29 (dk_at dksX6_greatest_1 18 rfl rfl)
theorem dX6_greatest_43 : decode cX6_greatest 43 = .ok (.iaload, 1) := dk_46 (dk_at dksX6_greatest_1 19 rfl rfl)
theorem dX6_greatest_44 : decode cX6_greatest 44 = .ok (.istore_n 1, 1) := dk_60 (dk_at dksX6_greatest_1 20 rfl rfl)
theorem dX6_greatest_45 : decode cX6_greatest 45 = .ok (.aload_n 0, 1) := dk_42 (dk_at dksX6_greatest_1 21 rfl rfl)
theorem dX6_greatest_46 : decode cX6_greatest 46 = .ok (.getfield 35, 3) := dk_180 0 35 (dk_at dksX6_greatest_2 0 rfl rfl)
theorem dX6_greatest_49 : decode cX6_greatest 49 = .ok (.iload_n 3, 1) := dk_29 (dk_at dksX6_greatest_2 3 rfl rfl)
theorem dX6_greatest_50 : decode cX6_greatest 50 = .ok (.iaload, 1) := dk_46 (dk_at dksX6_greatest_2 4 rfl rfl)
theorem dX6_greatest_51 : decode cX6_greatest 51 = .ok (.istore_n 2, 1) := dk_61 (dk_at dksX6_greatest_2 5 rfl rfl)
theorem dX6_greatest_52 : decode cX6_greatest 52 = .ok (.iinc 3 1, 3) := dk_132 3 1 (dk_at dksX6_greatest_2 6 rfl rfl)
theorem dX6_greatest_55 : decode cX6_greatest 55 = .ok (.goto (-49), 3) := dk_167 255 207 (dk_at dksX6_greatest_2 9 rfl rfl)
theorem dX6_greatest_58 : decode cX6_greatest 58 = .ok (.iload_n 1, 1) := dk_27 (dk_at dksX6_greatest_2 12 rfl rfl)
theorem dX6_greatest_59 : decode cX6_greatest 59 = .ok (.bipush 64, 2) := dk_16 64 (dk_at dksX6_greatest_2 13 rfl rfl)
theorem dX6_greatest_61 : decode cX6_greatest 61 = .ok (.imul, 1) := dk_104 (dk_at dksX6_greatest_2 15 rfl rfl)
theorem dX6_greatest_62 : decode cX6_greatest 62 = .ok (.iload_n 2, 1) := dk_28 (dk_at dksX6_greatest_2 16 rfl rfl)
theorem dX6_greatest_63 : decode cX6_greatest 63 = .ok (.iadd, 1) := dk_96 (dk_at dksX6_greatest_2 17 rfl rfl)
theorem dX6_greatest_64 : decode cX6_greatest 64 = .ok (.ireturn, 1) := dk_172 (dk_at dksX6_greatest_2 18 rfl rfl)
abbrev cX6_init : ByteArray := prog_11_method_1_code
def yX6_init : MethodName := ⟨RX6, "<init>", "(LOneElastic;)V"⟩
def dkwX6_init_2 : List UInt8 := [181, 0, 28, 42, 16, 8, 188, 10, 181, 0, 31, 42, 16, 8, 188, 10, 181, 0, 35, 177]
abbrev dktX6_init_2 : List UInt8 := dkwX6_init_2 ++ []
def dkwX6_init_1 : List UInt8 := [181, 0, 19, 42, 16, 8, 188, 8, 181, 0, 22, 42, 16, 8, 188, 8, 181, 0, 25, 42, 16, 8, 188, 8]
abbrev dktX6_init_1 : List UInt8 := dkwX6_init_1 ++ dktX6_init_2
def dkwX6_init_0 : List UInt8 := [42, 43, 181, 0, 3, 42, 183, 0, 9, 42, 16, 8, 188, 8, 181, 0, 15, 42, 16, 8, 188, 8]
abbrev dktX6_init_0 : List UInt8 := dkwX6_init_0 ++ dktX6_init_1
theorem dksX6_init_0 : cX6_init.data.toList.drop 0 = dktX6_init_0 := by decide +kernel
theorem dksX6_init_1 : cX6_init.data.toList.drop 22 = dktX6_init_1 := dk_seg dksX6_init_0 22 rfl rfl
theorem dksX6_init_2 : cX6_init.data.toList.drop 46 = dktX6_init_2 := dk_seg dksX6_init_1 24 rfl rfl
theorem dX6_init_0 : decode cX6_init 0 = .ok (.aload_n 0, 1) := dk_42 (dk_at dksX6_init_0 0 rfl rfl)
theorem dX6_init_1 : decode cX6_init 1 = .ok (.aload_n 1, 1) := dk_43 (dk_at dksX6_init_0 1 rfl rfl)
theorem dX6_init_2 : decode cX6_init 2 = .ok (.putfield 3, 3) := dk_181 0 3 (dk_at dksX6_init_0 2 rfl rfl)
theorem dX6_init_5 : decode cX6_init 5 = .ok (.aload_n 0, 1) := dk_42 (dk_at dksX6_init_0 5 rfl rfl)
theorem dX6_init_6 : decode cX6_init 6 = .ok (.invokespecial 9, 3) := dk_183 0 9 (dk_at dksX6_init_0 6 rfl rfl)
theorem dX6_init_9 : decode cX6_init 9 = .ok (.aload_n 0, 1) := dk_42 (dk_at dksX6_init_0 9 rfl rfl)
theorem dX6_init_10 : decode cX6_init 10 = .ok (.bipush 8, 2) := dk_16 8 (dk_at dksX6_init_0 10 rfl rfl)
theorem dX6_init_12 : decode cX6_init 12 = .ok (.newarray .byte, 2) := dk_188_8 (dk_at dksX6_init_0 12 rfl rfl)
theorem dX6_init_14 : decode cX6_init 14 = .ok (.putfield 15, 3) := dk_181 0 15 (dk_at dksX6_init_0 14 rfl rfl)
theorem dX6_init_17 : decode cX6_init 17 = .ok (.aload_n 0, 1) := dk_42 (dk_at dksX6_init_0 17 rfl rfl)
theorem dX6_init_18 : decode cX6_init 18 = .ok (.bipush 8, 2) := dk_16 8 (dk_at dksX6_init_0 18 rfl rfl)
theorem dX6_init_20 : decode cX6_init 20 = .ok (.newarray .byte, 2) := dk_188_8 (dk_at dksX6_init_0 20 rfl rfl)
theorem dX6_init_22 : decode cX6_init 22 = .ok (.putfield 19, 3) := dk_181 0 19 (dk_at dksX6_init_1 0 rfl rfl)
theorem dX6_init_25 : decode cX6_init 25 = .ok (.aload_n 0, 1) := dk_42 (dk_at dksX6_init_1 3 rfl rfl)
theorem dX6_init_26 : decode cX6_init 26 = .ok (.bipush 8, 2) := dk_16 8 (dk_at dksX6_init_1 4 rfl rfl)
theorem dX6_init_28 : decode cX6_init 28 = .ok (.newarray .byte, 2) := dk_188_8 (dk_at dksX6_init_1 6 rfl rfl)
theorem dX6_init_30 : decode cX6_init 30 = .ok (.putfield 22, 3) := dk_181 0 22 (dk_at dksX6_init_1 8 rfl rfl)
theorem dX6_init_33 : decode cX6_init 33 = .ok (.aload_n 0, 1) := dk_42 (dk_at dksX6_init_1 11 rfl rfl)
theorem dX6_init_34 : decode cX6_init 34 = .ok (.bipush 8, 2) := dk_16 8 (dk_at dksX6_init_1 12 rfl rfl)
theorem dX6_init_36 : decode cX6_init 36 = .ok (.newarray .byte, 2) := dk_188_8 (dk_at dksX6_init_1 14 rfl rfl)
theorem dX6_init_38 : decode cX6_init 38 = .ok (.putfield 25, 3) := dk_181 0 25 (dk_at dksX6_init_1 16 rfl rfl)
theorem dX6_init_41 : decode cX6_init 41 = .ok (.aload_n 0, 1) := dk_42 (dk_at dksX6_init_1 19 rfl rfl)
theorem dX6_init_42 : decode cX6_init 42 = .ok (.bipush 8, 2) := dk_16 8 (dk_at dksX6_init_1 20 rfl rfl)
theorem dX6_init_44 : decode cX6_init 44 = .ok (.newarray .byte, 2) := dk_188_8 (dk_at dksX6_init_1 22 rfl rfl)
theorem dX6_init_46 : decode cX6_init 46 = .ok (.putfield 28, 3) := dk_181 0 28 (dk_at dksX6_init_2 0 rfl rfl)
theorem dX6_init_49 : decode cX6_init 49 = .ok (.aload_n 0, 1) := dk_42 (dk_at dksX6_init_2 3 rfl rfl)
theorem dX6_init_50 : decode cX6_init 50 = .ok (.bipush 8, 2) := dk_16 8 (dk_at dksX6_init_2 4 rfl rfl)
theorem dX6_init_52 : decode cX6_init 52 = .ok (.newarray .int, 2) := dk_188_10 (dk_at dksX6_init_2 6 rfl rfl)
theorem dX6_init_54 : decode cX6_init 54 = .ok (.putfield 31, 3) := dk_181 0 31 (dk_at dksX6_init_2 8 rfl rfl)
theorem dX6_init_57 : decode cX6_init 57 = .ok (.aload_n 0, 1) := dk_42 (dk_at dksX6_init_2 11 rfl rfl)
theorem dX6_init_58 : decode cX6_init 58 = .ok (.bipush 8, 2) := dk_16 8 (dk_at dksX6_init_2 12 rfl rfl)
theorem dX6_init_60 : decode cX6_init 60 = .ok (.newarray .int, 2) := dk_188_10 (dk_at dksX6_init_2 14 rfl rfl)
theorem dX6_init_62 : decode cX6_init 62 = .ok (.putfield 35, 3) := dk_181 0 35 (dk_at dksX6_init_2 16 rfl rfl)
theorem dX6_init_65 : decode cX6_init 65 = .ok (.return_, 1) := dk_177 (dk_at dksX6_init_2 19 rfl rfl)
abbrev cX6_takes : ByteArray := prog_11_method_2_code
def yX6_takes : MethodName := ⟨RX6, "takes", "(LOneElastic$Town;)LOneElastic$Town;"⟩
def dkwX6_takes_5 : List UInt8 := [180, 0, 60, 181, 0, 60, 42, 176]
abbrev dktX6_takes_5 : List UInt8 := dkwX6_takes_5 ++ []
def dkwX6_takes_4 : List UInt8 := [180, 0, 51, 181, 0, 51, 42, 43, 180, 0, 54, 181, 0, 54, 42, 43, 180, 0, 57, 181, 0, 57, 42, 43]
abbrev dktX6_takes_4 : List UInt8 := dkwX6_takes_4 ++ dktX6_takes_5
def dkwX6_takes_3 : List UInt8 := [16, 8, 184, 0, 38, 42, 43, 180, 0, 44, 181, 0, 44, 42, 43, 180, 0, 48, 181, 0, 48, 42, 43]
abbrev dktX6_takes_3 : List UInt8 := dkwX6_takes_3 ++ dktX6_takes_4
def dkwX6_takes_2 : List UInt8 := [180, 0, 25, 3, 42, 180, 0, 25, 3, 16, 8, 184, 0, 38, 43, 180, 0, 28, 3, 42, 180, 0, 28, 3]
abbrev dktX6_takes_2 : List UInt8 := dkwX6_takes_2 ++ dktX6_takes_3
def dkwX6_takes_1 : List UInt8 := [3, 16, 8, 184, 0, 38, 43, 180, 0, 22, 3, 42, 180, 0, 22, 3, 16, 8, 184, 0, 38, 43]
abbrev dktX6_takes_1 : List UInt8 := dkwX6_takes_1 ++ dktX6_takes_2
def dkwX6_takes_0 : List UInt8 := [43, 180, 0, 15, 3, 42, 180, 0, 15, 3, 16, 8, 184, 0, 38, 43, 180, 0, 19, 3, 42, 180, 0, 19]
abbrev dktX6_takes_0 : List UInt8 := dkwX6_takes_0 ++ dktX6_takes_1
theorem dksX6_takes_0 : cX6_takes.data.toList.drop 0 = dktX6_takes_0 := by decide +kernel
theorem dksX6_takes_1 : cX6_takes.data.toList.drop 24 = dktX6_takes_1 := dk_seg dksX6_takes_0 24 rfl rfl
theorem dksX6_takes_2 : cX6_takes.data.toList.drop 46 = dktX6_takes_2 := dk_seg dksX6_takes_1 22 rfl rfl
theorem dksX6_takes_3 : cX6_takes.data.toList.drop 70 = dktX6_takes_3 := dk_seg dksX6_takes_2 24 rfl rfl
theorem dksX6_takes_4 : cX6_takes.data.toList.drop 93 = dktX6_takes_4 := dk_seg dksX6_takes_3 23 rfl rfl
theorem dksX6_takes_5 : cX6_takes.data.toList.drop 117 = dktX6_takes_5 := dk_seg dksX6_takes_4 24 rfl rfl
theorem dX6_takes_0 : decode cX6_takes 0 = .ok (.aload_n 1, 1) := dk_43 (dk_at dksX6_takes_0 0 rfl rfl)
theorem dX6_takes_1 : decode cX6_takes 1 = .ok (.getfield 15, 3) := dk_180 0 15 (dk_at dksX6_takes_0 1 rfl rfl)
theorem dX6_takes_4 : decode cX6_takes 4 = .ok (.iconst 0, 1) := dk_3 (dk_at dksX6_takes_0 4 rfl rfl)
theorem dX6_takes_5 : decode cX6_takes 5 = .ok (.aload_n 0, 1) := dk_42 (dk_at dksX6_takes_0 5 rfl rfl)
theorem dX6_takes_6 : decode cX6_takes 6 = .ok (.getfield 15, 3) := dk_180 0 15 (dk_at dksX6_takes_0 6 rfl rfl)
theorem dX6_takes_9 : decode cX6_takes 9 = .ok (.iconst 0, 1) := dk_3 (dk_at dksX6_takes_0 9 rfl rfl)
theorem dX6_takes_10 : decode cX6_takes 10 = .ok (.bipush 8, 2) := dk_16 8 (dk_at dksX6_takes_0 10 rfl rfl)
theorem dX6_takes_12 : decode cX6_takes 12 = .ok (.invokestatic 38, 3) := dk_184 0 38 (dk_at dksX6_takes_0 12 rfl rfl)
theorem dX6_takes_15 : decode cX6_takes 15 = .ok (.aload_n 1, 1) := dk_43 (dk_at dksX6_takes_0 15 rfl rfl)
theorem dX6_takes_16 : decode cX6_takes 16 = .ok (.getfield 19, 3) := dk_180 0 19 (dk_at dksX6_takes_0 16 rfl rfl)
theorem dX6_takes_19 : decode cX6_takes 19 = .ok (.iconst 0, 1) := dk_3 (dk_at dksX6_takes_0 19 rfl rfl)
theorem dX6_takes_20 : decode cX6_takes 20 = .ok (.aload_n 0, 1) := dk_42 (dk_at dksX6_takes_0 20 rfl rfl)
theorem dX6_takes_21 : decode cX6_takes 21 = .ok (.getfield 19, 3) := dk_180 0 19 (dk_at dksX6_takes_0 21 rfl rfl)
theorem dX6_takes_24 : decode cX6_takes 24 = .ok (.iconst 0, 1) := dk_3 (dk_at dksX6_takes_1 0 rfl rfl)
theorem dX6_takes_25 : decode cX6_takes 25 = .ok (.bipush 8, 2) := dk_16 8 (dk_at dksX6_takes_1 1 rfl rfl)
theorem dX6_takes_27 : decode cX6_takes 27 = .ok (.invokestatic 38, 3) := dk_184 0 38 (dk_at dksX6_takes_1 3 rfl rfl)
theorem dX6_takes_30 : decode cX6_takes 30 = .ok (.aload_n 1, 1) := dk_43 (dk_at dksX6_takes_1 6 rfl rfl)
theorem dX6_takes_31 : decode cX6_takes 31 = .ok (.getfield 22, 3) := dk_180 0 22 (dk_at dksX6_takes_1 7 rfl rfl)
theorem dX6_takes_34 : decode cX6_takes 34 = .ok (.iconst 0, 1) := dk_3 (dk_at dksX6_takes_1 10 rfl rfl)
theorem dX6_takes_35 : decode cX6_takes 35 = .ok (.aload_n 0, 1) := dk_42 (dk_at dksX6_takes_1 11 rfl rfl)
theorem dX6_takes_36 : decode cX6_takes 36 = .ok (.getfield 22, 3) := dk_180 0 22 (dk_at dksX6_takes_1 12 rfl rfl)
theorem dX6_takes_39 : decode cX6_takes 39 = .ok (.iconst 0, 1) := dk_3 (dk_at dksX6_takes_1 15 rfl rfl)
theorem dX6_takes_40 : decode cX6_takes 40 = .ok (.bipush 8, 2) := dk_16 8 (dk_at dksX6_takes_1 16 rfl rfl)
theorem dX6_takes_42 : decode cX6_takes 42 = .ok (.invokestatic 38, 3) := dk_184 0 38 (dk_at dksX6_takes_1 18 rfl rfl)
theorem dX6_takes_45 : decode cX6_takes 45 = .ok (.aload_n 1, 1) := dk_43 (dk_at dksX6_takes_1 21 rfl rfl)
theorem dX6_takes_46 : decode cX6_takes 46 = .ok (.getfield 25, 3) := dk_180 0 25 (dk_at dksX6_takes_2 0 rfl rfl)
theorem dX6_takes_49 : decode cX6_takes 49 = .ok (.iconst 0, 1) := dk_3 (dk_at dksX6_takes_2 3 rfl rfl)
theorem dX6_takes_50 : decode cX6_takes 50 = .ok (.aload_n 0, 1) := dk_42 (dk_at dksX6_takes_2 4 rfl rfl)
theorem dX6_takes_51 : decode cX6_takes 51 = .ok (.getfield 25, 3) := dk_180 0 25 (dk_at dksX6_takes_2 5 rfl rfl)
theorem dX6_takes_54 : decode cX6_takes 54 = .ok (.iconst 0, 1) := dk_3 (dk_at dksX6_takes_2 8 rfl rfl)
theorem dX6_takes_55 : decode cX6_takes 55 = .ok (.bipush 8, 2) := dk_16 8 (dk_at dksX6_takes_2 9 rfl rfl)
theorem dX6_takes_57 : decode cX6_takes 57 = .ok (.invokestatic 38, 3) := dk_184 0 38 (dk_at dksX6_takes_2 11 rfl rfl)
theorem dX6_takes_60 : decode cX6_takes 60 = .ok (.aload_n 1, 1) := dk_43 (dk_at dksX6_takes_2 14 rfl rfl)
theorem dX6_takes_61 : decode cX6_takes 61 = .ok (.getfield 28, 3) := dk_180 0 28 (dk_at dksX6_takes_2 15 rfl rfl)
theorem dX6_takes_64 : decode cX6_takes 64 = .ok (.iconst 0, 1) := dk_3 (dk_at dksX6_takes_2 18 rfl rfl)
theorem dX6_takes_65 : decode cX6_takes 65 = .ok (.aload_n 0, 1) := dk_42 (dk_at dksX6_takes_2 19 rfl rfl)
theorem dX6_takes_66 : decode cX6_takes 66 = .ok (.getfield 28, 3) := dk_180 0 28 (dk_at dksX6_takes_2 20 rfl rfl)
theorem dX6_takes_69 : decode cX6_takes 69 = .ok (.iconst 0, 1) := dk_3 (dk_at dksX6_takes_2 23 rfl rfl)
theorem dX6_takes_70 : decode cX6_takes 70 = .ok (.bipush 8, 2) := dk_16 8 (dk_at dksX6_takes_3 0 rfl rfl)
theorem dX6_takes_72 : decode cX6_takes 72 = .ok (.invokestatic 38, 3) := dk_184 0 38 (dk_at dksX6_takes_3 2 rfl rfl)
theorem dX6_takes_75 : decode cX6_takes 75 = .ok (.aload_n 0, 1) := dk_42 (dk_at dksX6_takes_3 5 rfl rfl)
theorem dX6_takes_76 : decode cX6_takes 76 = .ok (.aload_n 1, 1) := dk_43 (dk_at dksX6_takes_3 6 rfl rfl)
theorem dX6_takes_77 : decode cX6_takes 77 = .ok (.getfield 44, 3) := dk_180 0 44 (dk_at dksX6_takes_3 7 rfl rfl)
theorem dX6_takes_80 : decode cX6_takes 80 = .ok (.putfield 44, 3) := dk_181 0 44 (dk_at dksX6_takes_3 10 rfl rfl)
theorem dX6_takes_83 : decode cX6_takes 83 = .ok (.aload_n 0, 1) := dk_42 (dk_at dksX6_takes_3 13 rfl rfl)
theorem dX6_takes_84 : decode cX6_takes 84 = .ok (.aload_n 1, 1) := dk_43 (dk_at dksX6_takes_3 14 rfl rfl)
theorem dX6_takes_85 : decode cX6_takes 85 = .ok (.getfield 48, 3) := dk_180 0 48 (dk_at dksX6_takes_3 15 rfl rfl)
theorem dX6_takes_88 : decode cX6_takes 88 = .ok (.putfield 48, 3) := dk_181 0 48 (dk_at dksX6_takes_3 18 rfl rfl)
theorem dX6_takes_91 : decode cX6_takes 91 = .ok (.aload_n 0, 1) := dk_42 (dk_at dksX6_takes_3 21 rfl rfl)
theorem dX6_takes_92 : decode cX6_takes 92 = .ok (.aload_n 1, 1) := dk_43 (dk_at dksX6_takes_3 22 rfl rfl)
theorem dX6_takes_93 : decode cX6_takes 93 = .ok (.getfield 51, 3) := dk_180 0 51 (dk_at dksX6_takes_4 0 rfl rfl)
theorem dX6_takes_96 : decode cX6_takes 96 = .ok (.putfield 51, 3) := dk_181 0 51 (dk_at dksX6_takes_4 3 rfl rfl)
theorem dX6_takes_99 : decode cX6_takes 99 = .ok (.aload_n 0, 1) := dk_42 (dk_at dksX6_takes_4 6 rfl rfl)
theorem dX6_takes_100 : decode cX6_takes 100 = .ok (.aload_n 1, 1) := dk_43 (dk_at dksX6_takes_4 7 rfl rfl)
theorem dX6_takes_101 : decode cX6_takes 101 = .ok (.getfield 54, 3) := dk_180 0 54 (dk_at dksX6_takes_4 8 rfl rfl)
theorem dX6_takes_104 : decode cX6_takes 104 = .ok (.putfield 54, 3) := dk_181 0 54 (dk_at dksX6_takes_4 11 rfl rfl)
theorem dX6_takes_107 : decode cX6_takes 107 = .ok (.aload_n 0, 1) := dk_42 (dk_at dksX6_takes_4 14 rfl rfl)
theorem dX6_takes_108 : decode cX6_takes 108 = .ok (.aload_n 1, 1) := dk_43 (dk_at dksX6_takes_4 15 rfl rfl)
theorem dX6_takes_109 : decode cX6_takes 109 = .ok (.getfield 57, 3) := dk_180 0 57 (dk_at dksX6_takes_4 16 rfl rfl)
theorem dX6_takes_112 : decode cX6_takes 112 = .ok (.putfield 57, 3) := dk_181 0 57 (dk_at dksX6_takes_4 19 rfl rfl)
theorem dX6_takes_115 : decode cX6_takes 115 = .ok (.aload_n 0, 1) := dk_42 (dk_at dksX6_takes_4 22 rfl rfl)
theorem dX6_takes_116 : decode cX6_takes 116 = .ok (.aload_n 1, 1) := dk_43 (dk_at dksX6_takes_4 23 rfl rfl)
theorem dX6_takes_117 : decode cX6_takes 117 = .ok (.getfield 60, 3) := dk_180 0 60 (dk_at dksX6_takes_5 0 rfl rfl)
theorem dX6_takes_120 : decode cX6_takes 120 = .ok (.putfield 60, 3) := dk_181 0 60 (dk_at dksX6_takes_5 3 rfl rfl)
theorem dX6_takes_123 : decode cX6_takes 123 = .ok (.aload_n 0, 1) := dk_42 (dk_at dksX6_takes_5 6 rfl rfl)
theorem dX6_takes_124 : decode cX6_takes 124 = .ok (.areturn, 1) := dk_176 (dk_at dksX6_takes_5 7 rfl rfl)
theorem q76 : (Jvm.Cond.initialized "OneElastic$Town") ∈ lw_all := lw_g (lw_at lw_m1 7 rfl) rfl
theorem q120 : (Jvm.Cond.instanceMethod ({ cls := "OneElastic$Town", name := "takesHold", desc := "(IJ)V" } : Jvm.MethodName)) ∈ lw_all := lw_g (lw_at lw_m1 51 rfl) rfl
theorem q121 : (Jvm.Cond.selects "OneElastic$Town" ({ cls := "OneElastic$Town", name := "takesHold", desc := "(IJ)V" } : Jvm.MethodName) ({ cls := "OneElastic$Town", name := "takesHold", desc := "(IJ)V" } : Jvm.MethodName)) ∈ lw_all := lw_g (lw_at lw_m1 52 rfl) rfl
theorem q122 : (Jvm.Cond.code ({ cls := "OneElastic$Town", name := "takesHold", desc := "(IJ)V" } : Jvm.MethodName) prog_11_method_15_code (4 : Nat) (Option.none : Option Jvm.ClassFile.FieldType)) ∈ lw_all := lw_g (lw_at lw_m1 53 rfl) rfl
theorem q135 : (Jvm.Cond.instanceMethod ({ cls := "OneElastic$Town", name := "measured", desc := "()LOneElastic$Town;" } : Jvm.MethodName)) ∈ lw_all := lw_g (lw_at lw_m1 66 rfl) rfl
theorem q136 : (Jvm.Cond.selects "OneElastic$Town" ({ cls := "OneElastic$Town", name := "measured", desc := "()LOneElastic$Town;" } : Jvm.MethodName) ({ cls := "OneElastic$Town", name := "measured", desc := "()LOneElastic$Town;" } : Jvm.MethodName)) ∈ lw_all := lw_g (lw_at lw_m1 67 rfl) rfl
theorem q137 : (Jvm.Cond.code ({ cls := "OneElastic$Town", name := "measured", desc := "()LOneElastic$Town;" } : Jvm.MethodName) prog_11_method_6_code (3 : Nat) (Option.some (Jvm.ClassFile.FieldType.object "OneElastic$Town"))) ∈ lw_all := lw_g (lw_at lw_m1 68 rfl) rfl
theorem q138 : (Jvm.Cond.methodLink "OneElastic$Town" (63 : Nat) ({ cls := "OneElastic$Town", name := "isCut", desc := "(I)Z" } : Jvm.MethodName)) ∈ lw_all := lw_g (lw_at lw_m1 69 rfl) rfl
theorem q139 : (Jvm.Cond.instanceMethod ({ cls := "OneElastic$Town", name := "isCut", desc := "(I)Z" } : Jvm.MethodName)) ∈ lw_all := lw_g (lw_at lw_m1 70 rfl) rfl
theorem q140 : (Jvm.Cond.selects "OneElastic$Town" ({ cls := "OneElastic$Town", name := "isCut", desc := "(I)Z" } : Jvm.MethodName) ({ cls := "OneElastic$Town", name := "isCut", desc := "(I)Z" } : Jvm.MethodName)) ∈ lw_all := lw_g (lw_at lw_m1 71 rfl) rfl
theorem q141 : (Jvm.Cond.code ({ cls := "OneElastic$Town", name := "isCut", desc := "(I)Z" } : Jvm.MethodName) prog_11_method_4_code (2 : Nat) (Option.some Jvm.ClassFile.FieldType.boolean)) ∈ lw_all := lw_g (lw_at lw_m1 72 rfl) rfl
theorem q142 : (Jvm.Cond.methodLink "OneElastic$Town" (67 : Nat) ({ cls := "OneElastic$Town", name := "holds", desc := "(I)Z" } : Jvm.MethodName)) ∈ lw_all := lw_g (lw_at lw_m1 73 rfl) rfl
theorem q143 : (Jvm.Cond.instanceMethod ({ cls := "OneElastic$Town", name := "holds", desc := "(I)Z" } : Jvm.MethodName)) ∈ lw_all := lw_g (lw_at lw_m1 74 rfl) rfl
theorem q144 : (Jvm.Cond.selects "OneElastic$Town" ({ cls := "OneElastic$Town", name := "holds", desc := "(I)Z" } : Jvm.MethodName) ({ cls := "OneElastic$Town", name := "holds", desc := "(I)Z" } : Jvm.MethodName)) ∈ lw_all := lw_g (lw_at lw_m1 75 rfl) rfl
theorem q145 : (Jvm.Cond.code ({ cls := "OneElastic$Town", name := "holds", desc := "(I)Z" } : Jvm.MethodName) prog_11_method_3_code (2 : Nat) (Option.some Jvm.ClassFile.FieldType.boolean)) ∈ lw_all := lw_g (lw_at lw_m1 76 rfl) rfl
theorem q146 : (Jvm.Cond.methodLink "OneElastic$Town" (70 : Nat) ({ cls := "OneElastic$Town", name := "pulls", desc := "(II)V" } : Jvm.MethodName)) ∈ lw_all := lw_g (lw_at lw_m1 77 rfl) rfl
theorem q147 : (Jvm.Cond.privateMethod ({ cls := "OneElastic$Town", name := "pulls", desc := "(II)V" } : Jvm.MethodName)) ∈ lw_tbl := lw_at lw_m1 78 rfl
theorem q148 : (Jvm.Cond.instanceMethod ({ cls := "OneElastic$Town", name := "pulls", desc := "(II)V" } : Jvm.MethodName)) ∈ lw_all := lw_g (lw_at lw_m1 79 rfl) rfl
theorem q149 : (Jvm.Cond.instantiable "OneElastic$Town" (14 : Nat)) ∈ lw_all := lw_g (lw_at lw_m1 80 rfl) rfl
theorem q150 : (Jvm.Cond.code ({ cls := "OneElastic$Town", name := "pulls", desc := "(II)V" } : Jvm.MethodName) prog_11_method_7_code (6 : Nat) (Option.none : Option Jvm.ClassFile.FieldType)) ∈ lw_all := lw_g (lw_at lw_m1 81 rfl) rfl
theorem q157 : (Jvm.Cond.instanceMethod ({ cls := "OneElastic$Town", name := "pulledBy", desc := "(I)J" } : Jvm.MethodName)) ∈ lw_all := lw_g (lw_at lw_m1 88 rfl) rfl
theorem q158 : (Jvm.Cond.selects "OneElastic$Town" ({ cls := "OneElastic$Town", name := "pulledBy", desc := "(I)J" } : Jvm.MethodName) ({ cls := "OneElastic$Town", name := "pulledBy", desc := "(I)J" } : Jvm.MethodName)) ∈ lw_all := lw_g (lw_at lw_m1 89 rfl) rfl
theorem q159 : (Jvm.Cond.code ({ cls := "OneElastic$Town", name := "pulledBy", desc := "(I)J" } : Jvm.MethodName) prog_11_method_8_code (4 : Nat) (Option.some Jvm.ClassFile.FieldType.long)) ∈ lw_all := lw_g (lw_at lw_m1 90 rfl) rfl
theorem q160 : (Jvm.Cond.methodLink "OneElastic$Town" (74 : Nat) ({ cls := "OneElastic$Town", name := "belowRight", desc := "(I)I" } : Jvm.MethodName)) ∈ lw_all := lw_g (lw_at lw_m1 91 rfl) rfl
theorem q161 : (Jvm.Cond.privateMethod ({ cls := "OneElastic$Town", name := "belowRight", desc := "(I)I" } : Jvm.MethodName)) ∈ lw_tbl := lw_at lw_m1 92 rfl
theorem q162 : (Jvm.Cond.instanceMethod ({ cls := "OneElastic$Town", name := "belowRight", desc := "(I)I" } : Jvm.MethodName)) ∈ lw_all := lw_g (lw_at lw_m1 93 rfl) rfl
theorem q163 : (Jvm.Cond.code ({ cls := "OneElastic$Town", name := "belowRight", desc := "(I)I" } : Jvm.MethodName) prog_11_method_9_code (2 : Nat) (Option.some Jvm.ClassFile.FieldType.int)) ∈ lw_all := lw_g (lw_at lw_m1 94 rfl) rfl
theorem q168 : (Jvm.Cond.instanceMethod ({ cls := "OneElastic$Town", name := "holdsOut", desc := "(I)I" } : Jvm.MethodName)) ∈ lw_all := lw_g (lw_at lw_m1 99 rfl) rfl
theorem q169 : (Jvm.Cond.selects "OneElastic$Town" ({ cls := "OneElastic$Town", name := "holdsOut", desc := "(I)I" } : Jvm.MethodName) ({ cls := "OneElastic$Town", name := "holdsOut", desc := "(I)I" } : Jvm.MethodName)) ∈ lw_all := lw_g (lw_at lw_m1 100 rfl) rfl
theorem q170 : (Jvm.Cond.code ({ cls := "OneElastic$Town", name := "holdsOut", desc := "(I)I" } : Jvm.MethodName) prog_11_method_12_code (3 : Nat) (Option.some Jvm.ClassFile.FieldType.int)) ∈ lw_all := lw_g (lw_at lw_m1 101 rfl) rfl
theorem q171 : (Jvm.Cond.interfaceEntry "OneElastic$Town" (82 : Nat)) ∈ lw_tbl := lw_at lw_m1 102 rfl
theorem q172 : (Jvm.Cond.methodLink "OneElastic$Town" (82 : Nat) ({ cls := "OneElastic$Person", name := "out", desc := "(III)I" } : Jvm.MethodName)) ∈ lw_all := lw_g (lw_at lw_m1 103 rfl) rfl
theorem q223 : (Jvm.Cond.instanceMethod ({ cls := "OneElastic$Town", name := "pulledBelow", desc := "(I)J" } : Jvm.MethodName)) ∈ lw_all := lw_g (lw_at lw_m1 154 rfl) rfl
theorem q224 : (Jvm.Cond.selects "OneElastic$Town" ({ cls := "OneElastic$Town", name := "pulledBelow", desc := "(I)J" } : Jvm.MethodName) ({ cls := "OneElastic$Town", name := "pulledBelow", desc := "(I)J" } : Jvm.MethodName)) ∈ lw_all := lw_g (lw_at lw_m1 155 rfl) rfl
theorem q225 : (Jvm.Cond.code ({ cls := "OneElastic$Town", name := "pulledBelow", desc := "(I)J" } : Jvm.MethodName) prog_11_method_10_code (2 : Nat) (Option.some Jvm.ClassFile.FieldType.long)) ∈ lw_all := lw_g (lw_at lw_m1 156 rfl) rfl
theorem q227 : (Jvm.Cond.instanceMethod ({ cls := "OneElastic$Town", name := "lets", desc := "(I)V" } : Jvm.MethodName)) ∈ lw_all := lw_g (lw_at lw_m1 158 rfl) rfl
theorem q228 : (Jvm.Cond.selects "OneElastic$Town" ({ cls := "OneElastic$Town", name := "lets", desc := "(I)V" } : Jvm.MethodName) ({ cls := "OneElastic$Town", name := "lets", desc := "(I)V" } : Jvm.MethodName)) ∈ lw_all := lw_g (lw_at lw_m1 159 rfl) rfl
theorem q229 : (Jvm.Cond.code ({ cls := "OneElastic$Town", name := "lets", desc := "(I)V" } : Jvm.MethodName) prog_11_method_14_code (2 : Nat) (Option.none : Option Jvm.ClassFile.FieldType)) ∈ lw_all := lw_g (lw_at lw_m1 160 rfl) rfl
theorem q243 : (Jvm.Cond.instanceMethod ({ cls := "OneElastic$Town", name := "placeOf", desc := "(I)LOneElastic$Part;" } : Jvm.MethodName)) ∈ lw_all := lw_g (lw_at lw_m1 174 rfl) rfl
theorem q244 : (Jvm.Cond.selects "OneElastic$Town" ({ cls := "OneElastic$Town", name := "placeOf", desc := "(I)LOneElastic$Part;" } : Jvm.MethodName) ({ cls := "OneElastic$Town", name := "placeOf", desc := "(I)LOneElastic$Part;" } : Jvm.MethodName)) ∈ lw_all := lw_g (lw_at lw_m1 175 rfl) rfl
theorem q245 : (Jvm.Cond.code ({ cls := "OneElastic$Town", name := "placeOf", desc := "(I)LOneElastic$Part;" } : Jvm.MethodName) prog_11_method_13_code (9 : Nat) (Option.some (Jvm.ClassFile.FieldType.object "OneElastic$Part"))) ∈ lw_all := lw_g (lw_at lw_m1 176 rfl) rfl
theorem q246 : (Jvm.Cond.methodLinkNest "OneElastic$Town" (88 : Nat) ({ cls := "OneElastic", name := "whole", desc := "(J)LOneElastic$Part;" } : Jvm.MethodName) "OneElastic") ∈ lw_tbl := lw_at lw_m1 177 rfl
theorem q268 : (Jvm.Cond.methodLink "OneElastic$Town" (92 : Nat) ({ cls := "OneElastic$Town", name := "next", desc := "(II)I" } : Jvm.MethodName)) ∈ lw_all := lw_g (lw_at lw_m1 199 rfl) rfl
theorem q269 : (Jvm.Cond.instanceMethod ({ cls := "OneElastic$Town", name := "next", desc := "(II)I" } : Jvm.MethodName)) ∈ lw_all := lw_g (lw_at lw_m1 200 rfl) rfl
theorem q270 : (Jvm.Cond.selects "OneElastic$Town" ({ cls := "OneElastic$Town", name := "next", desc := "(II)I" } : Jvm.MethodName) ({ cls := "OneElastic$Town", name := "next", desc := "(II)I" } : Jvm.MethodName)) ∈ lw_all := lw_g (lw_at lw_m1 201 rfl) rfl
theorem q271 : (Jvm.Cond.code ({ cls := "OneElastic$Town", name := "next", desc := "(II)I" } : Jvm.MethodName) prog_11_method_5_code (5 : Nat) (Option.some Jvm.ClassFile.FieldType.int)) ∈ lw_all := lw_g (lw_at lw_m1 202 rfl) rfl
theorem q272 : (Jvm.Cond.classLink "OneElastic$Town" (96 : Nat) "OneElastic$Part") ∈ lw_all := lw_g (lw_at lw_m1 203 rfl) rfl
theorem q273 : (Jvm.Cond.methodLink "OneElastic$Town" (98 : Nat) ({ cls := "OneElastic$Part", name := "<init>", desc := "(JJ)V" } : Jvm.MethodName)) ∈ lw_all := lw_g (lw_at lw_m1 204 rfl) rfl
theorem q274 : (Jvm.Cond.methodLink "OneElastic$Town" (101 : Nat) ({ cls := "OneElastic$Part", name := "plus", desc := "(LOneElastic$Part;)LOneElastic$Part;" } : Jvm.MethodName)) ∈ lw_all := lw_g (lw_at lw_m1 205 rfl) rfl
theorem q310 : (Jvm.Cond.instanceMethod ({ cls := "OneElastic$Town", name := "greatest", desc := "()I" } : Jvm.MethodName)) ∈ lw_all := lw_g (lw_at lw_m2 1 rfl) rfl
theorem q311 : (Jvm.Cond.selects "OneElastic$Town" ({ cls := "OneElastic$Town", name := "greatest", desc := "()I" } : Jvm.MethodName) ({ cls := "OneElastic$Town", name := "greatest", desc := "()I" } : Jvm.MethodName)) ∈ lw_all := lw_g (lw_at lw_m2 2 rfl) rfl
theorem q312 : (Jvm.Cond.code ({ cls := "OneElastic$Town", name := "greatest", desc := "()I" } : Jvm.MethodName) prog_11_method_11_code (4 : Nat) (Option.some Jvm.ClassFile.FieldType.int)) ∈ lw_all := lw_g (lw_at lw_m2 3 rfl) rfl
theorem q546 : (Jvm.Cond.instanceMethod ({ cls := "OneElastic$Town", name := "<init>", desc := "(LOneElastic;)V" } : Jvm.MethodName)) ∈ lw_all := lw_g (lw_at lw_m2 237 rfl) rfl
theorem q547 : (Jvm.Cond.code ({ cls := "OneElastic$Town", name := "<init>", desc := "(LOneElastic;)V" } : Jvm.MethodName) prog_11_method_1_code (2 : Nat) (Option.none : Option Jvm.ClassFile.FieldType)) ∈ lw_all := lw_g (lw_at lw_m2 238 rfl) rfl
theorem q548 : (Jvm.Cond.methodLink "OneElastic$Town" (9 : Nat) ({ cls := "java/lang/Object", name := "<init>", desc := "()V" } : Jvm.MethodName)) ∈ lw_all := lw_g (lw_at lw_m2 239 rfl) rfl
theorem q549 : (Jvm.Cond.fieldLink "OneElastic$Town" (15 : Nat) "OneElastic$Town" "kind" "[B") ∈ lw_all := lw_g (lw_at lw_m3 0 rfl) rfl
theorem q551 : (Jvm.Cond.fieldLink "OneElastic$Town" (19 : Nat) "OneElastic$Town" "strength" "[B") ∈ lw_all := lw_g (lw_at lw_m3 2 rfl) rfl
theorem q553 : (Jvm.Cond.fieldLink "OneElastic$Town" (22 : Nat) "OneElastic$Town" "place" "[B") ∈ lw_all := lw_g (lw_at lw_m3 4 rfl) rfl
theorem q555 : (Jvm.Cond.fieldLink "OneElastic$Town" (25 : Nat) "OneElastic$Town" "length" "[B") ∈ lw_all := lw_g (lw_at lw_m3 6 rfl) rfl
theorem q557 : (Jvm.Cond.fieldLink "OneElastic$Town" (28 : Nat) "OneElastic$Town" "gives" "[B") ∈ lw_all := lw_g (lw_at lw_m3 8 rfl) rfl
theorem q559 : (Jvm.Cond.fieldLink "OneElastic$Town" (31 : Nat) "OneElastic$Town" "over" "[I") ∈ lw_all := lw_g (lw_at lw_m3 10 rfl) rfl
theorem q561 : (Jvm.Cond.fieldLink "OneElastic$Town" (35 : Nat) "OneElastic$Town" "under" "[I") ∈ lw_all := lw_g (lw_at lw_m3 12 rfl) rfl
theorem q563 : (Jvm.Cond.fieldLink "OneElastic$Town" (44 : Nat) "OneElastic$Town" "n" "I") ∈ lw_all := lw_g (lw_at lw_m3 14 rfl) rfl
theorem q565 : (Jvm.Cond.fieldLink "OneElastic$Town" (48 : Nat) "OneElastic$Town" "holders" "I") ∈ lw_all := lw_g (lw_at lw_m3 16 rfl) rfl
theorem q567 : (Jvm.Cond.fieldLink "OneElastic$Town" (51 : Nat) "OneElastic$Town" "cuts" "I") ∈ lw_all := lw_g (lw_at lw_m3 18 rfl) rfl
theorem q569 : (Jvm.Cond.fieldLink "OneElastic$Town" (54 : Nat) "OneElastic$Town" "hour" "I") ∈ lw_all := lw_g (lw_at lw_m3 20 rfl) rfl
theorem q571 : (Jvm.Cond.fieldLink "OneElastic$Town" (57 : Nat) "OneElastic$Town" "bears" "I") ∈ lw_all := lw_g (lw_at lw_m3 22 rfl) rfl
theorem q573 : (Jvm.Cond.fieldLink "OneElastic$Town" (60 : Nat) "OneElastic$Town" "draw" "I") ∈ lw_all := lw_g (lw_at lw_m3 24 rfl) rfl
theorem q575 : (Jvm.Cond.fieldLink "OneElastic$Town" (3 : Nat) "OneElastic$Town" "this$0" "LOneElastic;") ∈ lw_all := lw_g (lw_at lw_m3 26 rfl) rfl
theorem q576 : (Jvm.Cond.laysFinal "OneElastic$Town" "OneElastic$Town" "kind" "[B") ∈ lw_all := lw_g (lw_at lw_m3 27 rfl) rfl
theorem q577 : (Jvm.Cond.soleField "OneElastic$Town" "kind") ∈ lw_all := lw_g (lw_at lw_m3 28 rfl) rfl
theorem q578 : (Jvm.Cond.laysFinal "OneElastic$Town" "OneElastic$Town" "strength" "[B") ∈ lw_all := lw_g (lw_at lw_m3 29 rfl) rfl
theorem q579 : (Jvm.Cond.soleField "OneElastic$Town" "strength") ∈ lw_all := lw_g (lw_at lw_m3 30 rfl) rfl
theorem q580 : (Jvm.Cond.laysFinal "OneElastic$Town" "OneElastic$Town" "place" "[B") ∈ lw_all := lw_g (lw_at lw_m3 31 rfl) rfl
theorem q581 : (Jvm.Cond.soleField "OneElastic$Town" "place") ∈ lw_all := lw_g (lw_at lw_m3 32 rfl) rfl
theorem q582 : (Jvm.Cond.laysFinal "OneElastic$Town" "OneElastic$Town" "length" "[B") ∈ lw_all := lw_g (lw_at lw_m3 33 rfl) rfl
theorem q583 : (Jvm.Cond.soleField "OneElastic$Town" "length") ∈ lw_all := lw_g (lw_at lw_m3 34 rfl) rfl
theorem q584 : (Jvm.Cond.laysFinal "OneElastic$Town" "OneElastic$Town" "gives" "[B") ∈ lw_all := lw_g (lw_at lw_m3 35 rfl) rfl
theorem q585 : (Jvm.Cond.soleField "OneElastic$Town" "gives") ∈ lw_all := lw_g (lw_at lw_m3 36 rfl) rfl
theorem q586 : (Jvm.Cond.laysFinal "OneElastic$Town" "OneElastic$Town" "over" "[I") ∈ lw_all := lw_g (lw_at lw_m3 37 rfl) rfl
theorem q587 : (Jvm.Cond.soleField "OneElastic$Town" "over") ∈ lw_all := lw_g (lw_at lw_m3 38 rfl) rfl
theorem q588 : (Jvm.Cond.laysFinal "OneElastic$Town" "OneElastic$Town" "under" "[I") ∈ lw_all := lw_g (lw_at lw_m3 39 rfl) rfl
theorem q589 : (Jvm.Cond.soleField "OneElastic$Town" "under") ∈ lw_all := lw_g (lw_at lw_m3 40 rfl) rfl
theorem q590 : (Jvm.Cond.lays "OneElastic$Town" "OneElastic$Town" "n" "I") ∈ lw_all := lw_g (lw_at lw_m3 41 rfl) rfl
theorem q591 : (Jvm.Cond.soleField "OneElastic$Town" "n") ∈ lw_all := lw_g (lw_at lw_m3 42 rfl) rfl
theorem q592 : (Jvm.Cond.lays "OneElastic$Town" "OneElastic$Town" "holders" "I") ∈ lw_all := lw_g (lw_at lw_m3 43 rfl) rfl
theorem q593 : (Jvm.Cond.soleField "OneElastic$Town" "holders") ∈ lw_all := lw_g (lw_at lw_m3 44 rfl) rfl
theorem q594 : (Jvm.Cond.lays "OneElastic$Town" "OneElastic$Town" "cuts" "I") ∈ lw_all := lw_g (lw_at lw_m3 45 rfl) rfl
theorem q595 : (Jvm.Cond.soleField "OneElastic$Town" "cuts") ∈ lw_all := lw_g (lw_at lw_m3 46 rfl) rfl
theorem q596 : (Jvm.Cond.lays "OneElastic$Town" "OneElastic$Town" "hour" "I") ∈ lw_all := lw_g (lw_at lw_m3 47 rfl) rfl
theorem q597 : (Jvm.Cond.soleField "OneElastic$Town" "hour") ∈ lw_all := lw_g (lw_at lw_m3 48 rfl) rfl
theorem q598 : (Jvm.Cond.lays "OneElastic$Town" "OneElastic$Town" "bears" "I") ∈ lw_all := lw_g (lw_at lw_m3 49 rfl) rfl
theorem q599 : (Jvm.Cond.soleField "OneElastic$Town" "bears") ∈ lw_all := lw_g (lw_at lw_m3 50 rfl) rfl
theorem q600 : (Jvm.Cond.lays "OneElastic$Town" "OneElastic$Town" "draw" "I") ∈ lw_all := lw_g (lw_at lw_m3 51 rfl) rfl
theorem q601 : (Jvm.Cond.soleField "OneElastic$Town" "draw") ∈ lw_all := lw_g (lw_at lw_m3 52 rfl) rfl
theorem q602 : (Jvm.Cond.laysFinal "OneElastic$Town" "OneElastic$Town" "this$0" "LOneElastic;") ∈ lw_all := lw_g (lw_at lw_m3 53 rfl) rfl
theorem q603 : (Jvm.Cond.soleField "OneElastic$Town" "this$0") ∈ lw_all := lw_g (lw_at lw_m3 54 rfl) rfl
theorem q604 : (Jvm.Cond.superclass "OneElastic$Town" "java/lang/Object") ∈ lw_all := lw_g (lw_at lw_m3 55 rfl) rfl
theorem q607 : (Jvm.Cond.instanceMethod ({ cls := "OneElastic$Town", name := "takes", desc := "(LOneElastic$Town;)LOneElastic$Town;" } : Jvm.MethodName)) ∈ lw_all := lw_g (lw_at lw_m3 58 rfl) rfl
theorem q608 : (Jvm.Cond.selects "OneElastic$Town" ({ cls := "OneElastic$Town", name := "takes", desc := "(LOneElastic$Town;)LOneElastic$Town;" } : Jvm.MethodName) ({ cls := "OneElastic$Town", name := "takes", desc := "(LOneElastic$Town;)LOneElastic$Town;" } : Jvm.MethodName)) ∈ lw_all := lw_g (lw_at lw_m3 59 rfl) rfl
theorem q609 : (Jvm.Cond.code ({ cls := "OneElastic$Town", name := "takes", desc := "(LOneElastic$Town;)LOneElastic$Town;" } : Jvm.MethodName) prog_11_method_2_code (2 : Nat) (Option.some (Jvm.ClassFile.FieldType.object "OneElastic$Town"))) ∈ lw_all := lw_g (lw_at lw_m3 60 rfl) rfl
theorem q610 : (Jvm.Cond.methodLink "OneElastic$Town" (38 : Nat) ({ cls := "java/lang/System", name := "arraycopy", desc := "(Ljava/lang/Object;ILjava/lang/Object;II)V" } : Jvm.MethodName)) ∈ lw_all := lw_g (lw_at lw_m3 61 rfl) rfl
theorem q667 : (Jvm.Cond.selects "OneElastic$Town" ({ cls := "java/lang/Object", name := "getClass", desc := "()Ljava/lang/Class;" } : Jvm.MethodName) ({ cls := "java/lang/Object", name := "getClass", desc := "()Ljava/lang/Class;" } : Jvm.MethodName)) ∈ lw_all := lw_g (lw_at lw_m3 118 rfl) rfl
theorem q1110 : (Jvm.Cond.fieldLinkNest "OneElastic$Town" (78 : Nat) "OneElastic" "kinds" "[LOneElastic$Person;" "OneElastic") ∈ lw_tbl := lw_at lw_m5 81 rfl
theorem q1598 : (Jvm.Cond.castable "OneElastic$Town" "java/lang/Object") ∈ lw_tbl := lw_at lw_m7 89 rfl
theorem in_X6 : ∀ w ∈ wsX60, w ∈ lw_all := lw_in wsX60 [576, 578, 580, 582, 584, 586, 588, 590, 592, 594, 596, 598, 600, 602] (by decide +kernel) (by decide +kernel)

/-! OneElastic$Held -/
set_option maxRecDepth 100000
def RX7 : String := "OneElastic$Held"
def TX7 : u_T := fun k => match k with
  | _ => ("OneElastic$Held", "row", "Ljava/lang/Object;", false)
def tyX7 : Nat → FieldType := fun k => match k with
  | _ => .object "java/lang/Object"
abbrev wsX70 : List Cond := u_ws RX7 TX7 1
theorem nmX7 : ∀ a, a < 1 → ∀ b, b < 1 → a ≠ b → (TX7 a).2.1 ≠ (TX7 b).2.1 := by decide +kernel
theorem tyX7_ok : ∀ k, k < 1 → parseFieldDescriptor (TX7 k).2.2.1 = some (tyX7 k) := by decide +kernel
abbrev cX7_init : ByteArray := prog_3_method_1_code
def yX7_init : MethodName := ⟨RX7, "<init>", "()V"⟩
theorem dX7_init_0 : decode cX7_init 0 = .ok (.aload_n 0, 1) := by decide +kernel
theorem dX7_init_1 : decode cX7_init 1 = .ok (.invokespecial 1, 3) := by decide +kernel
theorem dX7_init_4 : decode cX7_init 4 = .ok (.return_, 1) := by decide +kernel
theorem q79 : (Jvm.Cond.initialized "OneElastic$Held") ∈ lw_all := lw_g (lw_at lw_m1 10 rfl) rfl
theorem q660 : (Jvm.Cond.selects "OneElastic$Held" ({ cls := "java/lang/Object", name := "getClass", desc := "()Ljava/lang/Class;" } : Jvm.MethodName) ({ cls := "java/lang/Object", name := "getClass", desc := "()Ljava/lang/Class;" } : Jvm.MethodName)) ∈ lw_all := lw_g (lw_at lw_m3 111 rfl) rfl
theorem q1101 : (Jvm.Cond.instantiable "OneElastic$Held" (1 : Nat)) ∈ lw_all := lw_g (lw_at lw_m5 72 rfl) rfl
theorem q1103 : (Jvm.Cond.instanceMethod ({ cls := "OneElastic$Held", name := "<init>", desc := "()V" } : Jvm.MethodName)) ∈ lw_all := lw_g (lw_at lw_m5 74 rfl) rfl
theorem q1104 : (Jvm.Cond.code ({ cls := "OneElastic$Held", name := "<init>", desc := "()V" } : Jvm.MethodName) prog_3_method_1_code (1 : Nat) (Option.none : Option Jvm.ClassFile.FieldType)) ∈ lw_all := lw_g (lw_at lw_m5 75 rfl) rfl
theorem q1105 : (Jvm.Cond.methodLink "OneElastic$Held" (1 : Nat) ({ cls := "java/lang/Object", name := "<init>", desc := "()V" } : Jvm.MethodName)) ∈ lw_all := lw_g (lw_at lw_m5 76 rfl) rfl
theorem q1107 : (Jvm.Cond.lays "OneElastic$Held" "OneElastic$Held" "row" "Ljava/lang/Object;") ∈ lw_all := lw_g (lw_at lw_m5 78 rfl) rfl
theorem q1108 : (Jvm.Cond.soleField "OneElastic$Held" "row") ∈ lw_all := lw_g (lw_at lw_m5 79 rfl) rfl
theorem q1109 : (Jvm.Cond.superclass "OneElastic$Held" "java/lang/Object") ∈ lw_all := lw_g (lw_at lw_m5 80 rfl) rfl
theorem q1591 : (Jvm.Cond.castable "OneElastic$Held" "java/lang/Object") ∈ lw_tbl := lw_at lw_m7 82 rfl
theorem in_X7 : ∀ w ∈ wsX70, w ∈ lw_all := lw_in wsX70 [1107] (by decide +kernel) (by decide +kernel)

/-! OneElastic$Part -/
set_option maxRecDepth 100000
def RX9 : String := "OneElastic$Part"
def TX9 : u_T := fun k => match k with
  | 0 => ("OneElastic$Part", "above", "J", true)
  | _ => ("OneElastic$Part", "below", "J", true)
def tyX9 : Nat → FieldType := fun k => match k with
  | 0 => .long
  | _ => .long
abbrev wsX90 : List Cond := u_ws RX9 TX9 2
theorem nmX9 : ∀ a, a < 2 → ∀ b, b < 2 → a ≠ b → (TX9 a).2.1 ≠ (TX9 b).2.1 := by decide +kernel
theorem tyX9_ok : ∀ k, k < 2 → parseFieldDescriptor (TX9 k).2.2.1 = some (tyX9 k) := by decide +kernel
abbrev cX9_init : ByteArray := prog_5_method_1_code
def yX9_init : MethodName := ⟨RX9, "<init>", "(JJ)V"⟩
def dkwX9_init_1 : List UInt8 := [22, 5, 109, 181, 0, 23, 177]
abbrev dktX9_init_1 : List UInt8 := dkwX9_init_1 ++ []
def dkwX9_init_0 : List UInt8 := [42, 183, 0, 1, 31, 184, 0, 7, 33, 184, 0, 13, 55, 5, 42, 31, 22, 5, 109, 181, 0, 19, 42, 33]
abbrev dktX9_init_0 : List UInt8 := dkwX9_init_0 ++ dktX9_init_1
theorem dksX9_init_0 : cX9_init.data.toList.drop 0 = dktX9_init_0 := by decide +kernel
theorem dksX9_init_1 : cX9_init.data.toList.drop 24 = dktX9_init_1 := dk_seg dksX9_init_0 24 rfl rfl
theorem dX9_init_0 : decode cX9_init 0 = .ok (.aload_n 0, 1) := dk_42 (dk_at dksX9_init_0 0 rfl rfl)
theorem dX9_init_1 : decode cX9_init 1 = .ok (.invokespecial 1, 3) := dk_183 0 1 (dk_at dksX9_init_0 1 rfl rfl)
theorem dX9_init_4 : decode cX9_init 4 = .ok (.lload_n 1, 1) := dk_31 (dk_at dksX9_init_0 4 rfl rfl)
theorem dX9_init_5 : decode cX9_init 5 = .ok (.invokestatic 7, 3) := dk_184 0 7 (dk_at dksX9_init_0 5 rfl rfl)
theorem dX9_init_8 : decode cX9_init 8 = .ok (.lload_n 3, 1) := dk_33 (dk_at dksX9_init_0 8 rfl rfl)
theorem dX9_init_9 : decode cX9_init 9 = .ok (.invokestatic 13, 3) := dk_184 0 13 (dk_at dksX9_init_0 9 rfl rfl)
theorem dX9_init_12 : decode cX9_init 12 = .ok (.lstore 5, 2) := dk_55 5 (dk_at dksX9_init_0 12 rfl rfl)
theorem dX9_init_14 : decode cX9_init 14 = .ok (.aload_n 0, 1) := dk_42 (dk_at dksX9_init_0 14 rfl rfl)
theorem dX9_init_15 : decode cX9_init 15 = .ok (.lload_n 1, 1) := dk_31 (dk_at dksX9_init_0 15 rfl rfl)
theorem dX9_init_16 : decode cX9_init 16 = .ok (.lload 5, 2) := dk_22 5 (dk_at dksX9_init_0 16 rfl rfl)
theorem dX9_init_18 : decode cX9_init 18 = .ok (.ldiv, 1) := dk_109 (dk_at dksX9_init_0 18 rfl rfl)
theorem dX9_init_19 : decode cX9_init 19 = .ok (.putfield 19, 3) := dk_181 0 19 (dk_at dksX9_init_0 19 rfl rfl)
theorem dX9_init_22 : decode cX9_init 22 = .ok (.aload_n 0, 1) := dk_42 (dk_at dksX9_init_0 22 rfl rfl)
theorem dX9_init_23 : decode cX9_init 23 = .ok (.lload_n 3, 1) := dk_33 (dk_at dksX9_init_0 23 rfl rfl)
theorem dX9_init_24 : decode cX9_init 24 = .ok (.lload 5, 2) := dk_22 5 (dk_at dksX9_init_1 0 rfl rfl)
theorem dX9_init_26 : decode cX9_init 26 = .ok (.ldiv, 1) := dk_109 (dk_at dksX9_init_1 2 rfl rfl)
theorem dX9_init_27 : decode cX9_init 27 = .ok (.putfield 23, 3) := dk_181 0 23 (dk_at dksX9_init_1 3 rfl rfl)
theorem dX9_init_30 : decode cX9_init 30 = .ok (.return_, 1) := dk_177 (dk_at dksX9_init_1 6 rfl rfl)
abbrev cX9_common : ByteArray := prog_5_method_2_code
def yX9_common : MethodName := ⟨RX9, "common", "(JJ)J"⟩
def dkwX9_common_1 : List UInt8 := [22, 8, 55, 6, 167, 255, 234, 22, 4, 173]
abbrev dktX9_common_1 : List UInt8 := dkwX9_common_1 ++ []
def dkwX9_common_0 : List UInt8 := [30, 55, 4, 32, 55, 6, 22, 6, 9, 148, 153, 0, 21, 22, 4, 22, 6, 113, 55, 8, 22, 6, 55, 4]
abbrev dktX9_common_0 : List UInt8 := dkwX9_common_0 ++ dktX9_common_1
theorem dksX9_common_0 : cX9_common.data.toList.drop 0 = dktX9_common_0 := by decide +kernel
theorem dksX9_common_1 : cX9_common.data.toList.drop 24 = dktX9_common_1 := dk_seg dksX9_common_0 24 rfl rfl
theorem dX9_common_0 : decode cX9_common 0 = .ok (.lload_n 0, 1) := dk_30 (dk_at dksX9_common_0 0 rfl rfl)
theorem dX9_common_1 : decode cX9_common 1 = .ok (.lstore 4, 2) := dk_55 4 (dk_at dksX9_common_0 1 rfl rfl)
theorem dX9_common_3 : decode cX9_common 3 = .ok (.lload_n 2, 1) := dk_32 (dk_at dksX9_common_0 3 rfl rfl)
theorem dX9_common_4 : decode cX9_common 4 = .ok (.lstore 6, 2) := dk_55 6 (dk_at dksX9_common_0 4 rfl rfl)
theorem dX9_common_6 : decode cX9_common 6 = .ok (.lload 6, 2) := dk_22 6 (dk_at dksX9_common_0 6 rfl rfl)
theorem dX9_common_8 : decode cX9_common 8 = .ok (.lconst 0, 1) := dk_9 (dk_at dksX9_common_0 8 rfl rfl)
theorem dX9_common_9 : decode cX9_common 9 = .ok (.lcmp, 1) := dk_148 (dk_at dksX9_common_0 9 rfl rfl)
theorem dX9_common_10 : decode cX9_common 10 = .ok (.ifCond .eq 21, 3) := dk_153 0 21 (dk_at dksX9_common_0 10 rfl rfl)
theorem dX9_common_13 : decode cX9_common 13 = .ok (.lload 4, 2) := dk_22 4 (dk_at dksX9_common_0 13 rfl rfl)
theorem dX9_common_15 : decode cX9_common 15 = .ok (.lload 6, 2) := dk_22 6 (dk_at dksX9_common_0 15 rfl rfl)
theorem dX9_common_17 : decode cX9_common 17 = .ok (.lrem, 1) := dk_113 (dk_at dksX9_common_0 17 rfl rfl)
theorem dX9_common_18 : decode cX9_common 18 = .ok (.lstore 8, 2) := dk_55 8 (dk_at dksX9_common_0 18 rfl rfl)
theorem dX9_common_20 : decode cX9_common 20 = .ok (.lload 6, 2) := dk_22 6 (dk_at dksX9_common_0 20 rfl rfl)
theorem dX9_common_22 : decode cX9_common 22 = .ok (.lstore 4, 2) := dk_55 4 (dk_at dksX9_common_0 22 rfl rfl)
theorem dX9_common_24 : decode cX9_common 24 = .ok (.lload 8, 2) := dk_22 8 (dk_at dksX9_common_1 0 rfl rfl)
theorem dX9_common_26 : decode cX9_common 26 = .ok (.lstore 6, 2) := dk_55 6 (dk_at dksX9_common_1 2 rfl rfl)
theorem dX9_common_28 : decode cX9_common 28 = .ok (.goto (-22), 3) := dk_167 255 234 (dk_at dksX9_common_1 4 rfl rfl)
theorem dX9_common_31 : decode cX9_common 31 = .ok (.lload 4, 2) := dk_22 4 (dk_at dksX9_common_1 7 rfl rfl)
theorem dX9_common_33 : decode cX9_common 33 = .ok (.lreturn, 1) := dk_173 (dk_at dksX9_common_1 9 rfl rfl)
abbrev cX9_plus : ByteArray := prog_5_method_3_code
def yX9_plus : MethodName := ⟨RX9, "plus", "(LOneElastic$Part;)LOneElastic$Part;"⟩
def dkwX9_plus_1 : List UInt8 := [180, 0, 23, 43, 180, 0, 23, 105, 183, 0, 26, 176]
abbrev dktX9_plus_1 : List UInt8 := dkwX9_plus_1 ++ []
def dkwX9_plus_0 : List UInt8 := [187, 0, 14, 89, 42, 180, 0, 19, 43, 180, 0, 23, 105, 43, 180, 0, 19, 42, 180, 0, 23, 105, 97, 42]
abbrev dktX9_plus_0 : List UInt8 := dkwX9_plus_0 ++ dktX9_plus_1
theorem dksX9_plus_0 : cX9_plus.data.toList.drop 0 = dktX9_plus_0 := by decide +kernel
theorem dksX9_plus_1 : cX9_plus.data.toList.drop 24 = dktX9_plus_1 := dk_seg dksX9_plus_0 24 rfl rfl
theorem dX9_plus_0 : decode cX9_plus 0 = .ok (.new 14, 3) := dk_187 0 14 (dk_at dksX9_plus_0 0 rfl rfl)
theorem dX9_plus_3 : decode cX9_plus 3 = .ok (.dup, 1) := dk_89 (dk_at dksX9_plus_0 3 rfl rfl)
theorem dX9_plus_4 : decode cX9_plus 4 = .ok (.aload_n 0, 1) := dk_42 (dk_at dksX9_plus_0 4 rfl rfl)
theorem dX9_plus_5 : decode cX9_plus 5 = .ok (.getfield 19, 3) := dk_180 0 19 (dk_at dksX9_plus_0 5 rfl rfl)
theorem dX9_plus_8 : decode cX9_plus 8 = .ok (.aload_n 1, 1) := dk_43 (dk_at dksX9_plus_0 8 rfl rfl)
theorem dX9_plus_9 : decode cX9_plus 9 = .ok (.getfield 23, 3) := dk_180 0 23 (dk_at dksX9_plus_0 9 rfl rfl)
theorem dX9_plus_12 : decode cX9_plus 12 = .ok (.lmul, 1) := dk_105 (dk_at dksX9_plus_0 12 rfl rfl)
theorem dX9_plus_13 : decode cX9_plus 13 = .ok (.aload_n 1, 1) := dk_43 (dk_at dksX9_plus_0 13 rfl rfl)
theorem dX9_plus_14 : decode cX9_plus 14 = .ok (.getfield 19, 3) := dk_180 0 19 (dk_at dksX9_plus_0 14 rfl rfl)
theorem dX9_plus_17 : decode cX9_plus 17 = .ok (.aload_n 0, 1) := dk_42 (dk_at dksX9_plus_0 17 rfl rfl)
theorem dX9_plus_18 : decode cX9_plus 18 = .ok (.getfield 23, 3) := dk_180 0 23 (dk_at dksX9_plus_0 18 rfl rfl)
theorem dX9_plus_21 : decode cX9_plus 21 = .ok (.lmul, 1) := dk_105 (dk_at dksX9_plus_0 21 rfl rfl)
theorem dX9_plus_22 : decode cX9_plus 22 = .ok (.ladd, 1) := dk_97 (dk_at dksX9_plus_0 22 rfl rfl)
theorem dX9_plus_23 : decode cX9_plus 23 = .ok (.aload_n 0, 1) := dk_42 (dk_at dksX9_plus_0 23 rfl rfl)
theorem dX9_plus_24 : decode cX9_plus 24 = .ok (.getfield 23, 3) := dk_180 0 23 (dk_at dksX9_plus_1 0 rfl rfl)
theorem dX9_plus_27 : decode cX9_plus 27 = .ok (.aload_n 1, 1) := dk_43 (dk_at dksX9_plus_1 3 rfl rfl)
theorem dX9_plus_28 : decode cX9_plus 28 = .ok (.getfield 23, 3) := dk_180 0 23 (dk_at dksX9_plus_1 4 rfl rfl)
theorem dX9_plus_31 : decode cX9_plus 31 = .ok (.lmul, 1) := dk_105 (dk_at dksX9_plus_1 7 rfl rfl)
theorem dX9_plus_32 : decode cX9_plus 32 = .ok (.invokespecial 26, 3) := dk_183 0 26 (dk_at dksX9_plus_1 8 rfl rfl)
theorem dX9_plus_35 : decode cX9_plus 35 = .ok (.areturn, 1) := dk_176 (dk_at dksX9_plus_1 11 rfl rfl)
abbrev cX9_told : ByteArray := prog_5_method_5_code
def yX9_told : MethodName := ⟨RX9, "told", "(I)I"⟩
def dkwX9_told_0 : List UInt8 := [27, 154, 0, 10, 42, 180, 0, 19, 167, 0, 7, 42, 180, 0, 23, 136, 172]
abbrev dktX9_told_0 : List UInt8 := dkwX9_told_0 ++ []
theorem dksX9_told_0 : cX9_told.data.toList.drop 0 = dktX9_told_0 := by decide +kernel
theorem dX9_told_0 : decode cX9_told 0 = .ok (.iload_n 1, 1) := dk_27 (dk_at dksX9_told_0 0 rfl rfl)
theorem dX9_told_1 : decode cX9_told 1 = .ok (.ifCond .ne 10, 3) := dk_154 0 10 (dk_at dksX9_told_0 1 rfl rfl)
theorem dX9_told_4 : decode cX9_told 4 = .ok (.aload_n 0, 1) := dk_42 (dk_at dksX9_told_0 4 rfl rfl)
theorem dX9_told_5 : decode cX9_told 5 = .ok (.getfield 19, 3) := dk_180 0 19 (dk_at dksX9_told_0 5 rfl rfl)
theorem dX9_told_8 : decode cX9_told 8 = .ok (.goto 7, 3) := dk_167 0 7 (dk_at dksX9_told_0 8 rfl rfl)
theorem dX9_told_11 : decode cX9_told 11 = .ok (.aload_n 0, 1) := dk_42 (dk_at dksX9_told_0 11 rfl rfl)
theorem dX9_told_12 : decode cX9_told 12 = .ok (.getfield 23, 3) := dk_180 0 23 (dk_at dksX9_told_0 12 rfl rfl)
theorem dX9_told_15 : decode cX9_told 15 = .ok (.l2i, 1) := dk_136 (dk_at dksX9_told_0 15 rfl rfl)
theorem dX9_told_16 : decode cX9_told 16 = .ok (.ireturn, 1) := dk_172 (dk_at dksX9_told_0 16 rfl rfl)
abbrev cX9_cutDown : ByteArray := prog_5_method_4_code
def yX9_cutDown : MethodName := ⟨RX9, "cutDown", "()J"⟩
def dkwX9_cutDown_0 : List UInt8 := [42, 180, 0, 19, 42, 180, 0, 23, 184, 0, 29, 173]
abbrev dktX9_cutDown_0 : List UInt8 := dkwX9_cutDown_0 ++ []
theorem dksX9_cutDown_0 : cX9_cutDown.data.toList.drop 0 = dktX9_cutDown_0 := by decide +kernel
theorem dX9_cutDown_0 : decode cX9_cutDown 0 = .ok (.aload_n 0, 1) := dk_42 (dk_at dksX9_cutDown_0 0 rfl rfl)
theorem dX9_cutDown_1 : decode cX9_cutDown 1 = .ok (.getfield 19, 3) := dk_180 0 19 (dk_at dksX9_cutDown_0 1 rfl rfl)
theorem dX9_cutDown_4 : decode cX9_cutDown 4 = .ok (.aload_n 0, 1) := dk_42 (dk_at dksX9_cutDown_0 4 rfl rfl)
theorem dX9_cutDown_5 : decode cX9_cutDown 5 = .ok (.getfield 23, 3) := dk_180 0 23 (dk_at dksX9_cutDown_0 5 rfl rfl)
theorem dX9_cutDown_8 : decode cX9_cutDown 8 = .ok (.invokestatic 29, 3) := dk_184 0 29 (dk_at dksX9_cutDown_0 8 rfl rfl)
theorem dX9_cutDown_11 : decode cX9_cutDown 11 = .ok (.lreturn, 1) := dk_173 (dk_at dksX9_cutDown_0 11 rfl rfl)
theorem q82 : (Jvm.Cond.initialized "OneElastic$Part") ∈ lw_all := lw_g (lw_at lw_m1 13 rfl) rfl
theorem q250 : (Jvm.Cond.instantiable "OneElastic$Part" (2 : Nat)) ∈ lw_all := lw_g (lw_at lw_m1 181 rfl) rfl
theorem q252 : (Jvm.Cond.instanceMethod ({ cls := "OneElastic$Part", name := "<init>", desc := "(JJ)V" } : Jvm.MethodName)) ∈ lw_all := lw_g (lw_at lw_m1 183 rfl) rfl
theorem q253 : (Jvm.Cond.code ({ cls := "OneElastic$Part", name := "<init>", desc := "(JJ)V" } : Jvm.MethodName) prog_5_method_1_code (7 : Nat) (Option.none : Option Jvm.ClassFile.FieldType)) ∈ lw_all := lw_g (lw_at lw_m1 184 rfl) rfl
theorem q254 : (Jvm.Cond.methodLink "OneElastic$Part" (1 : Nat) ({ cls := "java/lang/Object", name := "<init>", desc := "()V" } : Jvm.MethodName)) ∈ lw_all := lw_g (lw_at lw_m1 185 rfl) rfl
theorem q257 : (Jvm.Cond.methodLink "OneElastic$Part" (7 : Nat) ({ cls := "java/lang/Math", name := "abs", desc := "(J)J" } : Jvm.MethodName)) ∈ lw_all := lw_g (lw_at lw_m1 188 rfl) rfl
theorem q258 : (Jvm.Cond.methodLink "OneElastic$Part" (13 : Nat) ({ cls := "OneElastic$Part", name := "common", desc := "(JJ)J" } : Jvm.MethodName)) ∈ lw_all := lw_g (lw_at lw_m1 189 rfl) rfl
theorem q259 : (Jvm.Cond.static ({ cls := "OneElastic$Part", name := "common", desc := "(JJ)J" } : Jvm.MethodName)) ∈ lw_all := lw_g (lw_at lw_m1 190 rfl) rfl
theorem q260 : (Jvm.Cond.code ({ cls := "OneElastic$Part", name := "common", desc := "(JJ)J" } : Jvm.MethodName) prog_5_method_2_code (10 : Nat) (Option.some Jvm.ClassFile.FieldType.long)) ∈ lw_all := lw_g (lw_at lw_m1 191 rfl) rfl
theorem q261 : (Jvm.Cond.fieldLink "OneElastic$Part" (19 : Nat) "OneElastic$Part" "above" "J") ∈ lw_all := lw_g (lw_at lw_m1 192 rfl) rfl
theorem q262 : (Jvm.Cond.fieldLink "OneElastic$Part" (23 : Nat) "OneElastic$Part" "below" "J") ∈ lw_all := lw_g (lw_at lw_m1 193 rfl) rfl
theorem q263 : (Jvm.Cond.laysFinal "OneElastic$Part" "OneElastic$Part" "above" "J") ∈ lw_all := lw_g (lw_at lw_m1 194 rfl) rfl
theorem q264 : (Jvm.Cond.soleField "OneElastic$Part" "above") ∈ lw_all := lw_g (lw_at lw_m1 195 rfl) rfl
theorem q265 : (Jvm.Cond.laysFinal "OneElastic$Part" "OneElastic$Part" "below" "J") ∈ lw_all := lw_g (lw_at lw_m1 196 rfl) rfl
theorem q266 : (Jvm.Cond.soleField "OneElastic$Part" "below") ∈ lw_all := lw_g (lw_at lw_m1 197 rfl) rfl
theorem q267 : (Jvm.Cond.superclass "OneElastic$Part" "java/lang/Object") ∈ lw_all := lw_g (lw_at lw_m1 198 rfl) rfl
theorem q275 : (Jvm.Cond.instanceMethod ({ cls := "OneElastic$Part", name := "plus", desc := "(LOneElastic$Part;)LOneElastic$Part;" } : Jvm.MethodName)) ∈ lw_all := lw_g (lw_at lw_m1 206 rfl) rfl
theorem q276 : (Jvm.Cond.selects "OneElastic$Part" ({ cls := "OneElastic$Part", name := "plus", desc := "(LOneElastic$Part;)LOneElastic$Part;" } : Jvm.MethodName) ({ cls := "OneElastic$Part", name := "plus", desc := "(LOneElastic$Part;)LOneElastic$Part;" } : Jvm.MethodName)) ∈ lw_all := lw_g (lw_at lw_m1 207 rfl) rfl
theorem q277 : (Jvm.Cond.code ({ cls := "OneElastic$Part", name := "plus", desc := "(LOneElastic$Part;)LOneElastic$Part;" } : Jvm.MethodName) prog_5_method_3_code (2 : Nat) (Option.some (Jvm.ClassFile.FieldType.object "OneElastic$Part"))) ∈ lw_all := lw_g (lw_at lw_m1 208 rfl) rfl
theorem q278 : (Jvm.Cond.classLink "OneElastic$Part" (14 : Nat) "OneElastic$Part") ∈ lw_all := lw_g (lw_at lw_m1 209 rfl) rfl
theorem q279 : (Jvm.Cond.methodLink "OneElastic$Part" (26 : Nat) ({ cls := "OneElastic$Part", name := "<init>", desc := "(JJ)V" } : Jvm.MethodName)) ∈ lw_all := lw_g (lw_at lw_m1 210 rfl) rfl
theorem q281 : (Jvm.Cond.instanceMethod ({ cls := "OneElastic$Part", name := "told", desc := "(I)I" } : Jvm.MethodName)) ∈ lw_all := lw_g (lw_at lw_m1 212 rfl) rfl
theorem q282 : (Jvm.Cond.selects "OneElastic$Part" ({ cls := "OneElastic$Part", name := "told", desc := "(I)I" } : Jvm.MethodName) ({ cls := "OneElastic$Part", name := "told", desc := "(I)I" } : Jvm.MethodName)) ∈ lw_all := lw_g (lw_at lw_m1 213 rfl) rfl
theorem q283 : (Jvm.Cond.code ({ cls := "OneElastic$Part", name := "told", desc := "(I)I" } : Jvm.MethodName) prog_5_method_5_code (2 : Nat) (Option.some Jvm.ClassFile.FieldType.int)) ∈ lw_all := lw_g (lw_at lw_m1 214 rfl) rfl
theorem q662 : (Jvm.Cond.selects "OneElastic$Part" ({ cls := "java/lang/Object", name := "getClass", desc := "()Ljava/lang/Class;" } : Jvm.MethodName) ({ cls := "java/lang/Object", name := "getClass", desc := "()Ljava/lang/Class;" } : Jvm.MethodName)) ∈ lw_all := lw_g (lw_at lw_m3 113 rfl) rfl
theorem q698 : (Jvm.Cond.instanceMethod ({ cls := "OneElastic$Part", name := "cutDown", desc := "()J" } : Jvm.MethodName)) ∈ lw_all := lw_g (lw_at lw_m3 149 rfl) rfl
theorem q699 : (Jvm.Cond.selects "OneElastic$Part" ({ cls := "OneElastic$Part", name := "cutDown", desc := "()J" } : Jvm.MethodName) ({ cls := "OneElastic$Part", name := "cutDown", desc := "()J" } : Jvm.MethodName)) ∈ lw_all := lw_g (lw_at lw_m3 150 rfl) rfl
theorem q700 : (Jvm.Cond.code ({ cls := "OneElastic$Part", name := "cutDown", desc := "()J" } : Jvm.MethodName) prog_5_method_4_code (1 : Nat) (Option.some Jvm.ClassFile.FieldType.long)) ∈ lw_all := lw_g (lw_at lw_m3 151 rfl) rfl
theorem q701 : (Jvm.Cond.methodLink "OneElastic$Part" (29 : Nat) ({ cls := "java/lang/Math", name := "floorDiv", desc := "(JJ)J" } : Jvm.MethodName)) ∈ lw_all := lw_g (lw_at lw_m3 152 rfl) rfl
theorem q1601 : (Jvm.Cond.castable "OneElastic$Part" "java/lang/Object") ∈ lw_tbl := lw_at lw_m7 92 rfl
theorem in_X9 : ∀ w ∈ wsX90, w ∈ lw_all := lw_in wsX90 [263, 265] (by decide +kernel) (by decide +kernel)

/-! OneElastic$Fault -/
set_option maxRecDepth 100000
def RX10 : String := "OneElastic$Fault"
def TX10 : u_T := fun k => match k with
  | 0 => ("java/lang/Throwable", "cause", "Ljava/lang/Throwable;", false)
  | 1 => ("java/lang/Throwable", "stackTrace", "[Ljava/lang/StackTraceElement;", false)
  | 2 => ("java/lang/Throwable", "suppressedExceptions", "Ljava/util/List;", false)
  | 3 => ("java/lang/Throwable", "detailMessage", "Ljava/lang/String;", false)
  | 4 => ("java/lang/Throwable", "backtrace", "Ljava/lang/Object;", false)
  | 5 => ("java/lang/Throwable", "depth", "I", false)
  | _ => ("OneElastic$Fault", "place", "I", true)
def tyX10 : Nat → FieldType := fun k => match k with
  | 0 => .object "java/lang/Throwable"
  | 1 => .array (.object "java/lang/StackTraceElement")
  | 2 => .object "java/util/List"
  | 3 => .object "java/lang/String"
  | 4 => .object "java/lang/Object"
  | 5 => .int
  | _ => .int
abbrev wsX100 : List Cond := u_ws RX10 TX10 7
theorem nmX10 : ∀ a, a < 7 → ∀ b, b < 7 → a ≠ b → (TX10 a).2.1 ≠ (TX10 b).2.1 := by decide +kernel
theorem tyX10_ok : ∀ k, k < 7 → parseFieldDescriptor (TX10 k).2.2.1 = some (tyX10 k) := by decide +kernel
abbrev cX10_init : ByteArray := prog_2_method_1_code
def yX10_init : MethodName := ⟨RX10, "<init>", "(I)V"⟩
def dkwX10_init_0 : List UInt8 := [42, 183, 0, 1, 42, 27, 181, 0, 7, 177]
abbrev dktX10_init_0 : List UInt8 := dkwX10_init_0 ++ []
theorem dksX10_init_0 : cX10_init.data.toList.drop 0 = dktX10_init_0 := by decide +kernel
theorem dX10_init_0 : decode cX10_init 0 = .ok (.aload_n 0, 1) := dk_42 (dk_at dksX10_init_0 0 rfl rfl)
theorem dX10_init_1 : decode cX10_init 1 = .ok (.invokespecial 1, 3) := dk_183 0 1 (dk_at dksX10_init_0 1 rfl rfl)
theorem dX10_init_4 : decode cX10_init 4 = .ok (.aload_n 0, 1) := dk_42 (dk_at dksX10_init_0 4 rfl rfl)
theorem dX10_init_5 : decode cX10_init 5 = .ok (.iload_n 1, 1) := dk_27 (dk_at dksX10_init_0 5 rfl rfl)
theorem dX10_init_6 : decode cX10_init 6 = .ok (.putfield 7, 3) := dk_181 0 7 (dk_at dksX10_init_0 6 rfl rfl)
theorem dX10_init_9 : decode cX10_init 9 = .ok (.return_, 1) := dk_177 (dk_at dksX10_init_0 9 rfl rfl)
theorem q85 : (Jvm.Cond.initialized "OneElastic$Fault") ∈ lw_all := lw_g (lw_at lw_m1 16 rfl) rfl
theorem q344 : (Jvm.Cond.instantiable "OneElastic$Fault" (7 : Nat)) ∈ lw_all := lw_g (lw_at lw_m2 35 rfl) rfl
theorem q345 : (Jvm.Cond.castable "OneElastic$Fault" "OneElastic$Fault") ∈ lw_tbl := lw_at lw_m2 36 rfl
theorem q350 : (Jvm.Cond.selects "OneElastic$Fault" ({ cls := "java/lang/Throwable", name := "fillInStackTrace", desc := "(I)Ljava/lang/Throwable;" } : Jvm.MethodName) ({ cls := "java/lang/Throwable", name := "fillInStackTrace", desc := "(I)Ljava/lang/Throwable;" } : Jvm.MethodName)) ∈ lw_all := lw_g (lw_at lw_m2 41 rfl) rfl
theorem q351 : (Jvm.Cond.selects "OneElastic$Fault" ({ cls := "java/lang/Throwable", name := "fillInStackTrace", desc := "()Ljava/lang/Throwable;" } : Jvm.MethodName) ({ cls := "java/lang/Throwable", name := "fillInStackTrace", desc := "()Ljava/lang/Throwable;" } : Jvm.MethodName)) ∈ lw_all := lw_g (lw_at lw_m2 42 rfl) rfl
theorem q352 : (Jvm.Cond.lays "OneElastic$Fault" "java/lang/Throwable" "cause" "Ljava/lang/Throwable;") ∈ lw_all := lw_g (lw_at lw_m2 43 rfl) rfl
theorem q354 : (Jvm.Cond.lays "OneElastic$Fault" "java/lang/Throwable" "stackTrace" "[Ljava/lang/StackTraceElement;") ∈ lw_all := lw_g (lw_at lw_m2 45 rfl) rfl
theorem q356 : (Jvm.Cond.lays "OneElastic$Fault" "java/lang/Throwable" "suppressedExceptions" "Ljava/util/List;") ∈ lw_all := lw_g (lw_at lw_m2 47 rfl) rfl
theorem q358 : (Jvm.Cond.lays "OneElastic$Fault" "java/lang/Throwable" "detailMessage" "Ljava/lang/String;") ∈ lw_all := lw_g (lw_at lw_m2 49 rfl) rfl
theorem q360 : (Jvm.Cond.lays "OneElastic$Fault" "java/lang/Throwable" "backtrace" "Ljava/lang/Object;") ∈ lw_all := lw_g (lw_at lw_m2 51 rfl) rfl
theorem q399 : (Jvm.Cond.instanceMethod ({ cls := "OneElastic$Fault", name := "<init>", desc := "(I)V" } : Jvm.MethodName)) ∈ lw_all := lw_g (lw_at lw_m2 90 rfl) rfl
theorem q400 : (Jvm.Cond.code ({ cls := "OneElastic$Fault", name := "<init>", desc := "(I)V" } : Jvm.MethodName) prog_2_method_1_code (2 : Nat) (Option.none : Option Jvm.ClassFile.FieldType)) ∈ lw_all := lw_g (lw_at lw_m2 91 rfl) rfl
theorem q401 : (Jvm.Cond.methodLink "OneElastic$Fault" (1 : Nat) ({ cls := "java/lang/Exception", name := "<init>", desc := "()V" } : Jvm.MethodName)) ∈ lw_all := lw_g (lw_at lw_m2 92 rfl) rfl
theorem q405 : (Jvm.Cond.fieldLink "OneElastic$Fault" (7 : Nat) "OneElastic$Fault" "place" "I") ∈ lw_all := lw_g (lw_at lw_m2 96 rfl) rfl
theorem q412 : (Jvm.Cond.laysFinal "OneElastic$Fault" "OneElastic$Fault" "place" "I") ∈ lw_all := lw_g (lw_at lw_m2 103 rfl) rfl
theorem q413 : (Jvm.Cond.soleField "OneElastic$Fault" "place") ∈ lw_all := lw_g (lw_at lw_m2 104 rfl) rfl
theorem q418 : (Jvm.Cond.lays "OneElastic$Fault" "java/lang/Throwable" "depth" "I") ∈ lw_all := lw_g (lw_at lw_m2 109 rfl) rfl
theorem q421 : (Jvm.Cond.superclass "OneElastic$Fault" "java/lang/Exception") ∈ lw_all := lw_g (lw_at lw_m2 112 rfl) rfl
theorem q659 : (Jvm.Cond.selects "OneElastic$Fault" ({ cls := "java/lang/Object", name := "getClass", desc := "()Ljava/lang/Class;" } : Jvm.MethodName) ({ cls := "java/lang/Object", name := "getClass", desc := "()Ljava/lang/Class;" } : Jvm.MethodName)) ∈ lw_all := lw_g (lw_at lw_m3 110 rfl) rfl
theorem q1602 : (Jvm.Cond.castable "OneElastic$Fault" "java/lang/Object") ∈ lw_tbl := lw_at lw_m7 93 rfl
theorem in_X10 : ∀ w ∈ wsX100, w ∈ lw_all := lw_in wsX100 [352, 354, 356, 358, 360, 418, 412] (by decide +kernel) (by decide +kernel)
