/-! GrassParkLaw -/
set_option maxRecDepth 100000
def RX0 : String := "GrassParkLaw"
abbrev cX0_cell : ByteArray := method_3_code
def yX0_cell : MethodName := ⟨RX0, "cell", "(LGrassPark;II[J)I"⟩
def dkwX0_cell_0 : List UInt8 := [45, 3, 42, 27, 28, 182, 0, 7, 133, 80, 167, 0, 7, 58, 4, 4, 172, 3, 172]
abbrev dktX0_cell_0 : List UInt8 := dkwX0_cell_0 ++ []
theorem dksX0_cell_0 : cX0_cell.data.toList.drop 0 = dktX0_cell_0 := by decide +kernel
theorem dX0_cell_0 : decode cX0_cell 0 = .ok (.aload_n 3, 1) := dk_45 (dk_at dksX0_cell_0 0 rfl rfl)
theorem dX0_cell_1 : decode cX0_cell 1 = .ok (.iconst 0, 1) := dk_3 (dk_at dksX0_cell_0 1 rfl rfl)
theorem dX0_cell_2 : decode cX0_cell 2 = .ok (.aload_n 0, 1) := dk_42 (dk_at dksX0_cell_0 2 rfl rfl)
theorem dX0_cell_3 : decode cX0_cell 3 = .ok (.iload_n 1, 1) := dk_27 (dk_at dksX0_cell_0 3 rfl rfl)
theorem dX0_cell_4 : decode cX0_cell 4 = .ok (.iload_n 2, 1) := dk_28 (dk_at dksX0_cell_0 4 rfl rfl)
theorem dX0_cell_5 : decode cX0_cell 5 = .ok (.invokevirtual 7, 3) := dk_182 0 7 (dk_at dksX0_cell_0 5 rfl rfl)
theorem dX0_cell_8 : decode cX0_cell 8 = .ok (.i2l, 1) := dk_133 (dk_at dksX0_cell_0 8 rfl rfl)
theorem dX0_cell_9 : decode cX0_cell 9 = .ok (.lastore, 1) := dk_80 (dk_at dksX0_cell_0 9 rfl rfl)
theorem dX0_cell_10 : decode cX0_cell 10 = .ok (.goto 7, 3) := dk_167 0 7 (dk_at dksX0_cell_0 10 rfl rfl)
theorem dX0_cell_13 : decode cX0_cell 13 = .ok (.astore 4, 2) := dk_58 4 (dk_at dksX0_cell_0 13 rfl rfl)
theorem dX0_cell_15 : decode cX0_cell 15 = .ok (.iconst 1, 1) := dk_4 (dk_at dksX0_cell_0 15 rfl rfl)
theorem dX0_cell_16 : decode cX0_cell 16 = .ok (.ireturn, 1) := dk_172 (dk_at dksX0_cell_0 16 rfl rfl)
theorem dX0_cell_17 : decode cX0_cell 17 = .ok (.iconst 0, 1) := dk_3 (dk_at dksX0_cell_0 17 rfl rfl)
theorem dX0_cell_18 : decode cX0_cell 18 = .ok (.ireturn, 1) := dk_172 (dk_at dksX0_cell_0 18 rfl rfl)
theorem q116 : (Jvm.Cond.initialized "GrassParkLaw") ∈ lw_all := lw_g (lw_at lw_m1 0 rfl) rfl
theorem q153 : (Jvm.Cond.classLink "GrassParkLaw" (8 : Nat) "GrassPark") ∈ lw_all := lw_g (lw_at lw_m1 37 rfl) rfl
theorem q155 : (Jvm.Cond.methodLink "GrassParkLaw" (15 : Nat) ({ cls := "GrassPark", name := "<init>", desc := "()V" } : Jvm.MethodName)) ∈ lw_all := lw_g (lw_at lw_m1 39 rfl) rfl
theorem q397 : (Jvm.Cond.methodLink "GrassParkLaw" (19 : Nat) ({ cls := "GrassPark", name := "feed", desc := "(IIIII)I" } : Jvm.MethodName)) ∈ lw_all := lw_g (lw_at lw_m2 41 rfl) rfl
theorem q405 : (Jvm.Cond.methodLink "GrassParkLaw" (24 : Nat) ({ cls := "GrassPark", name := "end", desc := "(I)Z" } : Jvm.MethodName)) ∈ lw_all := lw_g (lw_at lw_m2 49 rfl) rfl
theorem q409 : (Jvm.Cond.methodLink "GrassParkLaw" (29 : Nat) ({ cls := "GrassPark", name := "park", desc := "(II)Z" } : Jvm.MethodName)) ∈ lw_all := lw_g (lw_at lw_m2 53 rfl) rfl
theorem q424 : (Jvm.Cond.methodLink "GrassParkLaw" (34 : Nat) ({ cls := "GrassPark", name := "door", desc := "(I)I" } : Jvm.MethodName)) ∈ lw_all := lw_g (lw_at lw_m2 68 rfl) rfl
theorem q445 : (Jvm.Cond.methodLink "GrassParkLaw" (39 : Nat) ({ cls := "GrassPark", name := "law", desc := "()I" } : Jvm.MethodName)) ∈ lw_all := lw_g (lw_at lw_m2 89 rfl) rfl
theorem q1098 : (Jvm.Cond.methodLink "GrassParkLaw" (44 : Nat) ({ cls := "GrassPark", name := "habit", desc := "(I)I" } : Jvm.MethodName)) ∈ lw_all := lw_g (lw_at lw_m5 22 rfl) rfl
theorem q1115 : (Jvm.Cond.methodLink "GrassParkLaw" (48 : Nat) ({ cls := "GrassPark", name := "fault", desc := "()I" } : Jvm.MethodName)) ∈ lw_all := lw_g (lw_at lw_m5 39 rfl) rfl
theorem q1119 : (Jvm.Cond.methodLink "GrassParkLaw" (52 : Nat) ({ cls := "GrassPark", name := "wish", desc := "(IIIII)I" } : Jvm.MethodName)) ∈ lw_all := lw_g (lw_at lw_m5 43 rfl) rfl
theorem q1166 : (Jvm.Cond.methodLink "GrassParkLaw" (56 : Nat) ({ cls := "GrassPark", name := "drop", desc := "(I)Z" } : Jvm.MethodName)) ∈ lw_all := lw_g (lw_at lw_m5 90 rfl) rfl
theorem q1186 : (Jvm.Cond.methodLink "GrassParkLaw" (60 : Nat) ({ cls := "GrassPark", name := "run", desc := "(I)I" } : Jvm.MethodName)) ∈ lw_all := lw_g (lw_at lw_m5 110 rfl) rfl
theorem q1352 : (Jvm.Cond.methodLink "GrassParkLaw" (64 : Nat) ({ cls := "GrassPark", name := "week", desc := "()I" } : Jvm.MethodName)) ∈ lw_all := lw_g (lw_at lw_m6 36 rfl) rfl
theorem q1368 : (Jvm.Cond.methodLink "GrassParkLaw" (68 : Nat) ({ cls := "GrassPark", name := "rain", desc := "(I)Z" } : Jvm.MethodName)) ∈ lw_all := lw_g (lw_at lw_m6 52 rfl) rfl
theorem q1375 : (Jvm.Cond.methodLink "GrassParkLaw" (72 : Nat) ({ cls := "GrassPark", name := "snow", desc := "()V" } : Jvm.MethodName)) ∈ lw_all := lw_g (lw_at lw_m6 59 rfl) rfl
theorem q1382 : (Jvm.Cond.methodLink "GrassParkLaw" (76 : Nat) ({ cls := "GrassPark", name := "lay", desc := "(II)Z" } : Jvm.MethodName)) ∈ lw_all := lw_g (lw_at lw_m6 66 rfl) rfl
theorem q1394 : (Jvm.Cond.methodLink "GrassParkLaw" (89 : Nat) ({ cls := "GrassPark", name := "walker", desc := "(II)I" } : Jvm.MethodName)) ∈ lw_all := lw_g (lw_at lw_m6 78 rfl) rfl
theorem q1399 : (Jvm.Cond.methodLink "GrassParkLaw" (93 : Nat) ({ cls := "GrassPark", name := "net", desc := "()I" } : Jvm.MethodName)) ∈ lw_all := lw_g (lw_at lw_m6 83 rfl) rfl
theorem q1403 : (Jvm.Cond.methodLink "GrassParkLaw" (97 : Nat) ({ cls := "GrassPark", name := "pieces", desc := "()I" } : Jvm.MethodName)) ∈ lw_all := lw_g (lw_at lw_m6 87 rfl) rfl
theorem q1409 : (Jvm.Cond.methodLink "GrassParkLaw" (101 : Nat) ({ cls := "GrassPark", name := "rests", desc := "(II)I" } : Jvm.MethodName)) ∈ lw_all := lw_g (lw_at lw_m6 93 rfl) rfl
theorem q1450 : (Jvm.Cond.methodLink "GrassParkLaw" (105 : Nat) ({ cls := "GrassPark", name := "least", desc := "()I" } : Jvm.MethodName)) ∈ lw_all := lw_g (lw_at lw_m6 134 rfl) rfl
theorem q1463 : (Jvm.Cond.methodLink "GrassParkLaw" (109 : Nat) ({ cls := "GrassPark", name := "longer", desc := "(II)I" } : Jvm.MethodName)) ∈ lw_all := lw_g (lw_at lw_m6 147 rfl) rfl
theorem q1471 : (Jvm.Cond.methodLink "GrassParkLaw" (113 : Nat) ({ cls := "GrassPark", name := "turns", desc := "(IIII)I" } : Jvm.MethodName)) ∈ lw_all := lw_g (lw_at lw_m6 155 rfl) rfl
theorem q1486 : (Jvm.Cond.methodLink "GrassParkLaw" (118 : Nat) ({ cls := "GrassPark", name := "paved", desc := "(IIII)I" } : Jvm.MethodName)) ∈ lw_all := lw_g (lw_at lw_m6 170 rfl) rfl
theorem q1498 : (Jvm.Cond.methodLink "GrassParkLaw" (122 : Nat) ({ cls := "GrassPark", name := "wait", desc := "(II)I" } : Jvm.MethodName)) ∈ lw_all := lw_g (lw_at lw_m6 182 rfl) rfl
theorem q1502 : (Jvm.Cond.methodLink "GrassParkLaw" (126 : Nat) ({ cls := "GrassPark", name := "fences", desc := "(II)I" } : Jvm.MethodName)) ∈ lw_all := lw_g (lw_at lw_m6 186 rfl) rfl
theorem q1515 : (Jvm.Cond.methodLink "GrassParkLaw" (130 : Nat) ({ cls := "GrassPark", name := "fenceAt", desc := "(I)I" } : Jvm.MethodName)) ∈ lw_all := lw_g (lw_at lw_m6 199 rfl) rfl
theorem q1519 : (Jvm.Cond.methodLink "GrassParkLaw" (134 : Nat) ({ cls := "GrassPark", name := "lasts", desc := "(IIII)I" } : Jvm.MethodName)) ∈ lw_all := lw_g (lw_at lw_m6 203 rfl) rfl
theorem q1523 : (Jvm.Cond.methodLink "GrassParkLaw" (138 : Nat) ({ cls := "GrassPark", name := "way", desc := "(III)I" } : Jvm.MethodName)) ∈ lw_all := lw_g (lw_at lw_m6 207 rfl) rfl
theorem q1536 : (Jvm.Cond.methodLink "GrassParkLaw" (143 : Nat) ({ cls := "GrassPark", name := "wayAt", desc := "(I)I" } : Jvm.MethodName)) ∈ lw_all := lw_g (lw_at lw_m6 220 rfl) rfl
theorem q1540 : (Jvm.Cond.methodLink "GrassParkLaw" (147 : Nat) ({ cls := "GrassPark", name := "read", desc := "()I" } : Jvm.MethodName)) ∈ lw_all := lw_g (lw_at lw_m6 224 rfl) rfl
theorem q1549 : (Jvm.Cond.methodLink "GrassParkLaw" (151 : Nat) ({ cls := "GrassPark", name := "reads", desc := "(II)I" } : Jvm.MethodName)) ∈ lw_all := lw_g (lw_at lw_m6 233 rfl) rfl
theorem q1553 : (Jvm.Cond.methodLink "GrassParkLaw" (155 : Nat) ({ cls := "GrassPark", name := "fits", desc := "(II)I" } : Jvm.MethodName)) ∈ lw_all := lw_g (lw_at lw_m6 237 rfl) rfl
theorem q1557 : (Jvm.Cond.methodLink "GrassParkLaw" (159 : Nat) ({ cls := "GrassPark", name := "image", desc := "(I)Z" } : Jvm.MethodName)) ∈ lw_all := lw_g (lw_at lw_m7 1 rfl) rfl
theorem q1561 : (Jvm.Cond.methodLink "GrassParkLaw" (163 : Nat) ({ cls := "GrassPark", name := "restore", desc := "(I)Z" } : Jvm.MethodName)) ∈ lw_all := lw_g (lw_at lw_m7 5 rfl) rfl
theorem q1565 : (Jvm.Cond.methodLink "GrassParkLaw" (167 : Nat) ({ cls := "GrassPark", name := "count", desc := "(I)I" } : Jvm.MethodName)) ∈ lw_all := lw_g (lw_at lw_m7 9 rfl) rfl
theorem q1569 : (Jvm.Cond.methodLink "GrassParkLaw" (80 : Nat) ({ cls := "GrassParkLaw", name := "cell", desc := "(LGrassPark;II[J)I" } : Jvm.MethodName)) ∈ lw_all := lw_g (lw_at lw_m7 13 rfl) rfl
theorem q1570 : (Jvm.Cond.static ({ cls := "GrassParkLaw", name := "cell", desc := "(LGrassPark;II[J)I" } : Jvm.MethodName)) ∈ lw_all := lw_g (lw_at lw_m7 14 rfl) rfl
theorem q1571 : (Jvm.Cond.codeWith ({ cls := "GrassParkLaw", name := "cell", desc := "(LGrassPark;II[J)I" } : Jvm.MethodName) method_3_code (5 : Nat) (Option.some Jvm.ClassFile.FieldType.int) [((0 : Nat), (10 : Nat), (13 : Nat), (13 : Nat))]) ∈ lw_all := lw_g (lw_at lw_m7 15 rfl) rfl
theorem q1572 : (Jvm.Cond.classLink "GrassParkLaw" (13 : Nat) "java/util/NoSuchElementException") ∈ lw_all := lw_g (lw_at lw_m7 16 rfl) rfl
theorem q1573 : (Jvm.Cond.methodLink "GrassParkLaw" (7 : Nat) ({ cls := "GrassPark", name := "cell", desc := "(II)I" } : Jvm.MethodName)) ∈ lw_all := lw_g (lw_at lw_m7 17 rfl) rfl
theorem q1601 : (Jvm.Cond.methodLink "GrassParkLaw" (86 : Nat) ({ cls := "GrassParkModel", name := "thrown", desc := "()I" } : Jvm.MethodName)) ∈ lw_all := lw_g (lw_at lw_m7 45 rfl) rfl
theorem q1605 : (Jvm.Cond.methodLink "GrassParkLaw" (23 : Nat) ({ cls := "GrassParkModel", name := "feed", desc := "(IIIII)I" } : Jvm.MethodName)) ∈ lw_all := lw_g (lw_at lw_m7 49 rfl) rfl
theorem q1614 : (Jvm.Cond.methodLink "GrassParkLaw" (28 : Nat) ({ cls := "GrassParkModel", name := "end", desc := "(I)Z" } : Jvm.MethodName)) ∈ lw_all := lw_g (lw_at lw_m7 58 rfl) rfl
theorem q1618 : (Jvm.Cond.classLink "GrassParkLaw" (16 : Nat) "GrassParkModel") ∈ lw_all := lw_g (lw_at lw_m7 62 rfl) rfl
theorem q1619 : (Jvm.Cond.methodLink "GrassParkLaw" (18 : Nat) ({ cls := "GrassParkModel", name := "<init>", desc := "()V" } : Jvm.MethodName)) ∈ lw_all := lw_g (lw_at lw_m7 63 rfl) rfl
theorem q1813 : (Jvm.Cond.methodLink "GrassParkLaw" (33 : Nat) ({ cls := "GrassParkModel", name := "park", desc := "(II)Z" } : Jvm.MethodName)) ∈ lw_all := lw_g (lw_at lw_m8 17 rfl) rfl
theorem q1832 : (Jvm.Cond.methodLink "GrassParkLaw" (38 : Nat) ({ cls := "GrassParkModel", name := "door", desc := "(I)I" } : Jvm.MethodName)) ∈ lw_all := lw_g (lw_at lw_m8 36 rfl) rfl
theorem q1856 : (Jvm.Cond.methodLink "GrassParkLaw" (43 : Nat) ({ cls := "GrassParkModel", name := "law", desc := "()I" } : Jvm.MethodName)) ∈ lw_all := lw_g (lw_at lw_m8 60 rfl) rfl
theorem q1981 : (Jvm.Cond.methodLink "GrassParkLaw" (47 : Nat) ({ cls := "GrassParkModel", name := "habit", desc := "(I)I" } : Jvm.MethodName)) ∈ lw_all := lw_g (lw_at lw_m8 185 rfl) rfl
theorem q1985 : (Jvm.Cond.methodLink "GrassParkLaw" (51 : Nat) ({ cls := "GrassParkModel", name := "fault", desc := "()I" } : Jvm.MethodName)) ∈ lw_all := lw_g (lw_at lw_m8 189 rfl) rfl
theorem q1989 : (Jvm.Cond.methodLink "GrassParkLaw" (55 : Nat) ({ cls := "GrassParkModel", name := "wish", desc := "(IIIII)I" } : Jvm.MethodName)) ∈ lw_all := lw_g (lw_at lw_m8 193 rfl) rfl
theorem q1998 : (Jvm.Cond.methodLink "GrassParkLaw" (59 : Nat) ({ cls := "GrassParkModel", name := "drop", desc := "(I)Z" } : Jvm.MethodName)) ∈ lw_all := lw_g (lw_at lw_m8 202 rfl) rfl
theorem q2006 : (Jvm.Cond.methodLink "GrassParkLaw" (63 : Nat) ({ cls := "GrassParkModel", name := "run", desc := "(I)I" } : Jvm.MethodName)) ∈ lw_all := lw_g (lw_at lw_m8 210 rfl) rfl
theorem q2095 : (Jvm.Cond.methodLink "GrassParkLaw" (67 : Nat) ({ cls := "GrassParkModel", name := "week", desc := "()I" } : Jvm.MethodName)) ∈ lw_all := lw_g (lw_at lw_m9 59 rfl) rfl
theorem q2107 : (Jvm.Cond.methodLink "GrassParkLaw" (71 : Nat) ({ cls := "GrassParkModel", name := "rain", desc := "(I)Z" } : Jvm.MethodName)) ∈ lw_all := lw_g (lw_at lw_m9 71 rfl) rfl
theorem q2111 : (Jvm.Cond.methodLink "GrassParkLaw" (75 : Nat) ({ cls := "GrassParkModel", name := "snow", desc := "()V" } : Jvm.MethodName)) ∈ lw_all := lw_g (lw_at lw_m9 75 rfl) rfl
theorem q2115 : (Jvm.Cond.methodLink "GrassParkLaw" (79 : Nat) ({ cls := "GrassParkModel", name := "lay", desc := "(II)Z" } : Jvm.MethodName)) ∈ lw_all := lw_g (lw_at lw_m9 79 rfl) rfl
theorem q2127 : (Jvm.Cond.methodLink "GrassParkLaw" (85 : Nat) ({ cls := "GrassParkModel", name := "cell", desc := "(II)I" } : Jvm.MethodName)) ∈ lw_all := lw_g (lw_at lw_m9 91 rfl) rfl
theorem q2135 : (Jvm.Cond.methodLink "GrassParkLaw" (92 : Nat) ({ cls := "GrassParkModel", name := "walker", desc := "(II)I" } : Jvm.MethodName)) ∈ lw_all := lw_g (lw_at lw_m9 99 rfl) rfl
theorem q2139 : (Jvm.Cond.methodLink "GrassParkLaw" (96 : Nat) ({ cls := "GrassParkModel", name := "net", desc := "()I" } : Jvm.MethodName)) ∈ lw_all := lw_g (lw_at lw_m9 103 rfl) rfl
theorem q2143 : (Jvm.Cond.methodLink "GrassParkLaw" (100 : Nat) ({ cls := "GrassParkModel", name := "pieces", desc := "()I" } : Jvm.MethodName)) ∈ lw_all := lw_g (lw_at lw_m9 107 rfl) rfl
theorem q2151 : (Jvm.Cond.methodLink "GrassParkLaw" (104 : Nat) ({ cls := "GrassParkModel", name := "rests", desc := "(II)I" } : Jvm.MethodName)) ∈ lw_all := lw_g (lw_at lw_m9 115 rfl) rfl
theorem q2175 : (Jvm.Cond.methodLink "GrassParkLaw" (108 : Nat) ({ cls := "GrassParkModel", name := "least", desc := "()I" } : Jvm.MethodName)) ∈ lw_all := lw_g (lw_at lw_m9 139 rfl) rfl
theorem q2188 : (Jvm.Cond.methodLink "GrassParkLaw" (112 : Nat) ({ cls := "GrassParkModel", name := "longer", desc := "(II)I" } : Jvm.MethodName)) ∈ lw_all := lw_g (lw_at lw_m9 152 rfl) rfl
theorem q2196 : (Jvm.Cond.methodLink "GrassParkLaw" (117 : Nat) ({ cls := "GrassParkModel", name := "turns", desc := "(IIII)I" } : Jvm.MethodName)) ∈ lw_all := lw_g (lw_at lw_m9 160 rfl) rfl
theorem q2200 : (Jvm.Cond.methodLink "GrassParkLaw" (121 : Nat) ({ cls := "GrassParkModel", name := "paved", desc := "(IIII)I" } : Jvm.MethodName)) ∈ lw_all := lw_g (lw_at lw_m9 164 rfl) rfl
theorem q2208 : (Jvm.Cond.methodLink "GrassParkLaw" (125 : Nat) ({ cls := "GrassParkModel", name := "wait", desc := "(II)I" } : Jvm.MethodName)) ∈ lw_all := lw_g (lw_at lw_m9 172 rfl) rfl
theorem q2212 : (Jvm.Cond.methodLink "GrassParkLaw" (129 : Nat) ({ cls := "GrassParkModel", name := "fences", desc := "(II)I" } : Jvm.MethodName)) ∈ lw_all := lw_g (lw_at lw_m9 176 rfl) rfl
theorem q2224 : (Jvm.Cond.methodLink "GrassParkLaw" (133 : Nat) ({ cls := "GrassParkModel", name := "fenceAt", desc := "(I)I" } : Jvm.MethodName)) ∈ lw_all := lw_g (lw_at lw_m9 188 rfl) rfl
theorem q2228 : (Jvm.Cond.methodLink "GrassParkLaw" (137 : Nat) ({ cls := "GrassParkModel", name := "lasts", desc := "(IIII)I" } : Jvm.MethodName)) ∈ lw_all := lw_g (lw_at lw_m9 192 rfl) rfl
theorem q2232 : (Jvm.Cond.methodLink "GrassParkLaw" (142 : Nat) ({ cls := "GrassParkModel", name := "way", desc := "(III)I" } : Jvm.MethodName)) ∈ lw_all := lw_g (lw_at lw_m9 196 rfl) rfl
theorem q2244 : (Jvm.Cond.methodLink "GrassParkLaw" (146 : Nat) ({ cls := "GrassParkModel", name := "wayAt", desc := "(I)I" } : Jvm.MethodName)) ∈ lw_all := lw_g (lw_at lw_m9 208 rfl) rfl
theorem q2248 : (Jvm.Cond.methodLink "GrassParkLaw" (150 : Nat) ({ cls := "GrassParkModel", name := "read", desc := "()I" } : Jvm.MethodName)) ∈ lw_all := lw_g (lw_at lw_m9 212 rfl) rfl
theorem q2256 : (Jvm.Cond.methodLink "GrassParkLaw" (154 : Nat) ({ cls := "GrassParkModel", name := "reads", desc := "(II)I" } : Jvm.MethodName)) ∈ lw_all := lw_g (lw_at lw_m9 220 rfl) rfl
theorem q2260 : (Jvm.Cond.methodLink "GrassParkLaw" (158 : Nat) ({ cls := "GrassParkModel", name := "fits", desc := "(II)I" } : Jvm.MethodName)) ∈ lw_all := lw_g (lw_at lw_m9 224 rfl) rfl
theorem q2264 : (Jvm.Cond.methodLink "GrassParkLaw" (162 : Nat) ({ cls := "GrassParkModel", name := "image", desc := "(I)Z" } : Jvm.MethodName)) ∈ lw_all := lw_g (lw_at lw_m9 228 rfl) rfl
theorem q2268 : (Jvm.Cond.methodLink "GrassParkLaw" (166 : Nat) ({ cls := "GrassParkModel", name := "restore", desc := "(I)Z" } : Jvm.MethodName)) ∈ lw_all := lw_g (lw_at lw_m9 232 rfl) rfl
theorem q2272 : (Jvm.Cond.methodLink "GrassParkLaw" (170 : Nat) ({ cls := "GrassParkModel", name := "count", desc := "(I)I" } : Jvm.MethodName)) ∈ lw_all := lw_g (lw_at lw_m9 236 rfl) rfl
/-! GrassPark -/
set_option maxRecDepth 100000
def RX1 : String := "GrassPark"
def TX1 : u_T := fun k => match k with
  | 0 => ("GrassPark", "tape", "[B", true)
  | 1 => ("GrassPark", "taped", "I", false)
  | 2 => ("GrassPark", "fault", "I", false)
  | 3 => ("GrassPark", "ground", "LGrassPark$Ground;", false)
  | 4 => ("GrassPark", "trial", "LGrassPark$Ground;", true)
  | 5 => ("GrassPark", "law", "LGrassPark$Law;", false)
  | 6 => ("GrassPark", "habits", "[LGrassPark$Habit;", true)
  | 7 => ("GrassPark", "images", "[LGrassPark$Ground;", true)
  | 8 => ("GrassPark", "joined", "[[I", true)
  | 9 => ("GrassPark", "pavedAt", "[[Z", true)
  | 10 => ("GrassPark", "fenced", "[I", true)
  | 11 => ("GrassPark", "fenceMany", "I", false)
  | 12 => ("GrassPark", "wayCell", "[I", true)
  | 13 => ("GrassPark", "trace", "[I", true)
  | 14 => ("GrassPark", "waySteps", "I", false)
  | 15 => ("GrassPark", "traceSteps", "I", false)
  | 16 => ("GrassPark", "stepsOf", "[[I", true)
  | 17 => ("GrassPark", "leastOf", "[I", true)
  | 18 => ("GrassPark", "mostOf", "[I", true)
  | 19 => ("GrassPark", "chosen", "[I", true)
  | 20 => ("GrassPark", "left", "[I", true)
  | 21 => ("GrassPark", "readMany", "I", false)
  | _ => ("GrassPark", "ways", "I", false)
def tyX1 : Nat → FieldType := fun k => match k with
  | 0 => .array .byte
  | 1 => .int
  | 2 => .int
  | 3 => .object "GrassPark$Ground"
  | 4 => .object "GrassPark$Ground"
  | 5 => .object "GrassPark$Law"
  | 6 => .array (.object "GrassPark$Habit")
  | 7 => .array (.object "GrassPark$Ground")
  | 8 => .array (.array .int)
  | 9 => .array (.array .boolean)
  | 10 => .array .int
  | 11 => .int
  | 12 => .array .int
  | 13 => .array .int
  | 14 => .int
  | 15 => .int
  | 16 => .array (.array .int)
  | 17 => .array .int
  | 18 => .array .int
  | 19 => .array .int
  | 20 => .array .int
  | 21 => .int
  | _ => .int
abbrev wsX10 : List Cond := u_ws RX1 TX1 23
set_option maxRecDepth 100000 in
theorem nmX1 : ∀ a, a < 23 → ∀ b, b < 23 → a ≠ b → (TX1 a).2.1 ≠ (TX1 b).2.1 := by decide +kernel
set_option maxRecDepth 100000 in
theorem tyX1_ok : ∀ k, k < 23 → parseFieldDescriptor (TX1 k).2.2.1 = some (tyX1 k) := by decide +kernel
abbrev cX1_init : ByteArray := prog_1_method_3_code
def yX1_init : MethodName := ⟨RX1, "<init>", "()V"⟩
def dkwX1_init_8 : List UInt8 := [177]
abbrev dktX1_init_8 : List UInt8 := dkwX1_init_8 ++ []
def dkwX1_init_7 : List UInt8 := [16, 6, 162, 0, 22, 42, 180, 0, 55, 27, 187, 0, 53, 89, 183, 0, 101, 83, 132, 1, 1, 167, 255, 234]
abbrev dktX1_init_7 : List UInt8 := dkwX1_init_7 ++ dktX1_init_8
def dkwX1_init_6 : List UInt8 := [188, 10, 181, 0, 92, 42, 8, 188, 10, 181, 0, 95, 42, 17, 1, 0, 188, 10, 181, 0, 98, 3, 60, 27]
abbrev dktX1_init_6 : List UInt8 := dkwX1_init_6 ++ dktX1_init_7
def dkwX1_init_5 : List UInt8 := [181, 0, 83, 42, 8, 17, 1, 0, 197, 0, 63, 2, 181, 0, 86, 42, 8, 188, 10, 181, 0, 89, 42, 8]
abbrev dktX1_init_5 : List UInt8 := dkwX1_init_5 ++ dktX1_init_6
def dkwX1_init_4 : List UInt8 := [181, 0, 73, 42, 17, 0, 201, 188, 10, 181, 0, 77, 42, 17, 0, 201, 188, 10, 181, 0, 80, 42, 2]
abbrev dktX1_init_4 : List UInt8 := dkwX1_init_4 ++ dktX1_init_5
def dkwX1_init_3 : List UInt8 := [197, 0, 63, 2, 181, 0, 65, 42, 16, 21, 17, 1, 0, 197, 0, 68, 2, 181, 0, 70, 42, 5, 188, 10]
abbrev dktX1_init_3 : List UInt8 := dkwX1_init_3 ++ dktX1_init_4
def dkwX1_init_2 : List UInt8 := [16, 6, 189, 0, 53, 181, 0, 55, 42, 6, 189, 0, 36, 181, 0, 59, 42, 16, 64, 17, 1, 0]
abbrev dktX1_init_2 : List UInt8 := dkwX1_init_2 ++ dktX1_init_3
def dkwX1_init_1 : List UInt8 := [42, 187, 0, 36, 89, 183, 0, 38, 181, 0, 43, 42, 187, 0, 46, 89, 183, 0, 48, 181, 0, 49, 42]
abbrev dktX1_init_1 : List UInt8 := dkwX1_init_1 ++ dktX1_init_2
def dkwX1_init_0 : List UInt8 := [42, 183, 0, 26, 42, 17, 1, 184, 188, 8, 181, 0, 32, 42, 187, 0, 36, 89, 183, 0, 38, 181, 0, 39]
abbrev dktX1_init_0 : List UInt8 := dkwX1_init_0 ++ dktX1_init_1
theorem dksX1_init_0 : cX1_init.data.toList.drop 0 = dktX1_init_0 := by decide +kernel
theorem dksX1_init_1 : cX1_init.data.toList.drop 24 = dktX1_init_1 := dk_seg dksX1_init_0 24 rfl rfl
theorem dksX1_init_2 : cX1_init.data.toList.drop 47 = dktX1_init_2 := dk_seg dksX1_init_1 23 rfl rfl
theorem dksX1_init_3 : cX1_init.data.toList.drop 69 = dktX1_init_3 := dk_seg dksX1_init_2 22 rfl rfl
theorem dksX1_init_4 : cX1_init.data.toList.drop 93 = dktX1_init_4 := dk_seg dksX1_init_3 24 rfl rfl
theorem dksX1_init_5 : cX1_init.data.toList.drop 116 = dktX1_init_5 := dk_seg dksX1_init_4 23 rfl rfl
theorem dksX1_init_6 : cX1_init.data.toList.drop 140 = dktX1_init_6 := dk_seg dksX1_init_5 24 rfl rfl
theorem dksX1_init_7 : cX1_init.data.toList.drop 164 = dktX1_init_7 := dk_seg dksX1_init_6 24 rfl rfl
theorem dksX1_init_8 : cX1_init.data.toList.drop 188 = dktX1_init_8 := dk_seg dksX1_init_7 24 rfl rfl
theorem dX1_init_0 : decode cX1_init 0 = .ok (.aload_n 0, 1) := dk_42 (dk_at dksX1_init_0 0 rfl rfl)
theorem dX1_init_1 : decode cX1_init 1 = .ok (.invokespecial 26, 3) := dk_183 0 26 (dk_at dksX1_init_0 1 rfl rfl)
theorem dX1_init_4 : decode cX1_init 4 = .ok (.aload_n 0, 1) := dk_42 (dk_at dksX1_init_0 4 rfl rfl)
theorem dX1_init_5 : decode cX1_init 5 = .ok (.sipush 440, 3) := dk_17 1 184 (dk_at dksX1_init_0 5 rfl rfl)
theorem dX1_init_8 : decode cX1_init 8 = .ok (.newarray .byte, 2) := dk_188_8 (dk_at dksX1_init_0 8 rfl rfl)
theorem dX1_init_10 : decode cX1_init 10 = .ok (.putfield 32, 3) := dk_181 0 32 (dk_at dksX1_init_0 10 rfl rfl)
theorem dX1_init_13 : decode cX1_init 13 = .ok (.aload_n 0, 1) := dk_42 (dk_at dksX1_init_0 13 rfl rfl)
theorem dX1_init_14 : decode cX1_init 14 = .ok (.new 36, 3) := dk_187 0 36 (dk_at dksX1_init_0 14 rfl rfl)
theorem dX1_init_17 : decode cX1_init 17 = .ok (.dup, 1) := dk_89 (dk_at dksX1_init_0 17 rfl rfl)
theorem dX1_init_18 : decode cX1_init 18 = .ok (.invokespecial 38, 3) := dk_183 0 38 (dk_at dksX1_init_0 18 rfl rfl)
theorem dX1_init_21 : decode cX1_init 21 = .ok (.putfield 39, 3) := dk_181 0 39 (dk_at dksX1_init_0 21 rfl rfl)
theorem dX1_init_24 : decode cX1_init 24 = .ok (.aload_n 0, 1) := dk_42 (dk_at dksX1_init_1 0 rfl rfl)
theorem dX1_init_25 : decode cX1_init 25 = .ok (.new 36, 3) := dk_187 0 36 (dk_at dksX1_init_1 1 rfl rfl)
theorem dX1_init_28 : decode cX1_init 28 = .ok (.dup, 1) := dk_89 (dk_at dksX1_init_1 4 rfl rfl)
theorem dX1_init_29 : decode cX1_init 29 = .ok (.invokespecial 38, 3) := dk_183 0 38 (dk_at dksX1_init_1 5 rfl rfl)
theorem dX1_init_32 : decode cX1_init 32 = .ok (.putfield 43, 3) := dk_181 0 43 (dk_at dksX1_init_1 8 rfl rfl)
theorem dX1_init_35 : decode cX1_init 35 = .ok (.aload_n 0, 1) := dk_42 (dk_at dksX1_init_1 11 rfl rfl)
theorem dX1_init_36 : decode cX1_init 36 = .ok (.new 46, 3) := dk_187 0 46 (dk_at dksX1_init_1 12 rfl rfl)
theorem dX1_init_39 : decode cX1_init 39 = .ok (.dup, 1) := dk_89 (dk_at dksX1_init_1 15 rfl rfl)
theorem dX1_init_40 : decode cX1_init 40 = .ok (.invokespecial 48, 3) := dk_183 0 48 (dk_at dksX1_init_1 16 rfl rfl)
theorem dX1_init_43 : decode cX1_init 43 = .ok (.putfield 49, 3) := dk_181 0 49 (dk_at dksX1_init_1 19 rfl rfl)
theorem dX1_init_46 : decode cX1_init 46 = .ok (.aload_n 0, 1) := dk_42 (dk_at dksX1_init_1 22 rfl rfl)
theorem dX1_init_47 : decode cX1_init 47 = .ok (.bipush 6, 2) := dk_16 6 (dk_at dksX1_init_2 0 rfl rfl)
theorem dX1_init_49 : decode cX1_init 49 = .ok (.anewarray 53, 3) := dk_189 0 53 (dk_at dksX1_init_2 2 rfl rfl)
theorem dX1_init_52 : decode cX1_init 52 = .ok (.putfield 55, 3) := dk_181 0 55 (dk_at dksX1_init_2 5 rfl rfl)
theorem dX1_init_55 : decode cX1_init 55 = .ok (.aload_n 0, 1) := dk_42 (dk_at dksX1_init_2 8 rfl rfl)
theorem dX1_init_56 : decode cX1_init 56 = .ok (.iconst 3, 1) := dk_6 (dk_at dksX1_init_2 9 rfl rfl)
theorem dX1_init_57 : decode cX1_init 57 = .ok (.anewarray 36, 3) := dk_189 0 36 (dk_at dksX1_init_2 10 rfl rfl)
theorem dX1_init_60 : decode cX1_init 60 = .ok (.putfield 59, 3) := dk_181 0 59 (dk_at dksX1_init_2 13 rfl rfl)
theorem dX1_init_63 : decode cX1_init 63 = .ok (.aload_n 0, 1) := dk_42 (dk_at dksX1_init_2 16 rfl rfl)
theorem dX1_init_64 : decode cX1_init 64 = .ok (.bipush 64, 2) := dk_16 64 (dk_at dksX1_init_2 17 rfl rfl)
theorem dX1_init_66 : decode cX1_init 66 = .ok (.sipush 256, 3) := dk_17 1 0 (dk_at dksX1_init_2 19 rfl rfl)
theorem dX1_init_69 : decode cX1_init 69 = .ok (.multianewarray 63 2, 4) := by decide +kernel
theorem dX1_init_73 : decode cX1_init 73 = .ok (.putfield 65, 3) := dk_181 0 65 (dk_at dksX1_init_3 4 rfl rfl)
theorem dX1_init_76 : decode cX1_init 76 = .ok (.aload_n 0, 1) := dk_42 (dk_at dksX1_init_3 7 rfl rfl)
theorem dX1_init_77 : decode cX1_init 77 = .ok (.bipush 21, 2) := dk_16 21 (dk_at dksX1_init_3 8 rfl rfl)
theorem dX1_init_79 : decode cX1_init 79 = .ok (.sipush 256, 3) := dk_17 1 0 (dk_at dksX1_init_3 10 rfl rfl)
theorem dX1_init_82 : decode cX1_init 82 = .ok (.multianewarray 68 2, 4) := by decide +kernel
theorem dX1_init_86 : decode cX1_init 86 = .ok (.putfield 70, 3) := dk_181 0 70 (dk_at dksX1_init_3 17 rfl rfl)
theorem dX1_init_89 : decode cX1_init 89 = .ok (.aload_n 0, 1) := dk_42 (dk_at dksX1_init_3 20 rfl rfl)
theorem dX1_init_90 : decode cX1_init 90 = .ok (.iconst 2, 1) := dk_5 (dk_at dksX1_init_3 21 rfl rfl)
theorem dX1_init_91 : decode cX1_init 91 = .ok (.newarray .int, 2) := dk_188_10 (dk_at dksX1_init_3 22 rfl rfl)
theorem dX1_init_93 : decode cX1_init 93 = .ok (.putfield 73, 3) := dk_181 0 73 (dk_at dksX1_init_4 0 rfl rfl)
theorem dX1_init_96 : decode cX1_init 96 = .ok (.aload_n 0, 1) := dk_42 (dk_at dksX1_init_4 3 rfl rfl)
theorem dX1_init_97 : decode cX1_init 97 = .ok (.sipush 201, 3) := dk_17 0 201 (dk_at dksX1_init_4 4 rfl rfl)
theorem dX1_init_100 : decode cX1_init 100 = .ok (.newarray .int, 2) := dk_188_10 (dk_at dksX1_init_4 7 rfl rfl)
theorem dX1_init_102 : decode cX1_init 102 = .ok (.putfield 77, 3) := dk_181 0 77 (dk_at dksX1_init_4 9 rfl rfl)
theorem dX1_init_105 : decode cX1_init 105 = .ok (.aload_n 0, 1) := dk_42 (dk_at dksX1_init_4 12 rfl rfl)
theorem dX1_init_106 : decode cX1_init 106 = .ok (.sipush 201, 3) := dk_17 0 201 (dk_at dksX1_init_4 13 rfl rfl)
theorem dX1_init_109 : decode cX1_init 109 = .ok (.newarray .int, 2) := dk_188_10 (dk_at dksX1_init_4 16 rfl rfl)
theorem dX1_init_111 : decode cX1_init 111 = .ok (.putfield 80, 3) := dk_181 0 80 (dk_at dksX1_init_4 18 rfl rfl)
theorem dX1_init_114 : decode cX1_init 114 = .ok (.aload_n 0, 1) := dk_42 (dk_at dksX1_init_4 21 rfl rfl)
theorem dX1_init_115 : decode cX1_init 115 = .ok (.iconst (-1), 1) := dk_2 (dk_at dksX1_init_4 22 rfl rfl)
theorem dX1_init_116 : decode cX1_init 116 = .ok (.putfield 83, 3) := dk_181 0 83 (dk_at dksX1_init_5 0 rfl rfl)
theorem dX1_init_119 : decode cX1_init 119 = .ok (.aload_n 0, 1) := dk_42 (dk_at dksX1_init_5 3 rfl rfl)
theorem dX1_init_120 : decode cX1_init 120 = .ok (.iconst 5, 1) := dk_8 (dk_at dksX1_init_5 4 rfl rfl)
theorem dX1_init_121 : decode cX1_init 121 = .ok (.sipush 256, 3) := dk_17 1 0 (dk_at dksX1_init_5 5 rfl rfl)
theorem dX1_init_124 : decode cX1_init 124 = .ok (.multianewarray 63 2, 4) := by decide +kernel
theorem dX1_init_128 : decode cX1_init 128 = .ok (.putfield 86, 3) := dk_181 0 86 (dk_at dksX1_init_5 12 rfl rfl)
theorem dX1_init_131 : decode cX1_init 131 = .ok (.aload_n 0, 1) := dk_42 (dk_at dksX1_init_5 15 rfl rfl)
theorem dX1_init_132 : decode cX1_init 132 = .ok (.iconst 5, 1) := dk_8 (dk_at dksX1_init_5 16 rfl rfl)
theorem dX1_init_133 : decode cX1_init 133 = .ok (.newarray .int, 2) := dk_188_10 (dk_at dksX1_init_5 17 rfl rfl)
theorem dX1_init_135 : decode cX1_init 135 = .ok (.putfield 89, 3) := dk_181 0 89 (dk_at dksX1_init_5 19 rfl rfl)
theorem dX1_init_138 : decode cX1_init 138 = .ok (.aload_n 0, 1) := dk_42 (dk_at dksX1_init_5 22 rfl rfl)
theorem dX1_init_139 : decode cX1_init 139 = .ok (.iconst 5, 1) := dk_8 (dk_at dksX1_init_5 23 rfl rfl)
theorem dX1_init_140 : decode cX1_init 140 = .ok (.newarray .int, 2) := dk_188_10 (dk_at dksX1_init_6 0 rfl rfl)
theorem dX1_init_142 : decode cX1_init 142 = .ok (.putfield 92, 3) := dk_181 0 92 (dk_at dksX1_init_6 2 rfl rfl)
theorem dX1_init_145 : decode cX1_init 145 = .ok (.aload_n 0, 1) := dk_42 (dk_at dksX1_init_6 5 rfl rfl)
theorem dX1_init_146 : decode cX1_init 146 = .ok (.iconst 5, 1) := dk_8 (dk_at dksX1_init_6 6 rfl rfl)
theorem dX1_init_147 : decode cX1_init 147 = .ok (.newarray .int, 2) := dk_188_10 (dk_at dksX1_init_6 7 rfl rfl)
theorem dX1_init_149 : decode cX1_init 149 = .ok (.putfield 95, 3) := dk_181 0 95 (dk_at dksX1_init_6 9 rfl rfl)
theorem dX1_init_152 : decode cX1_init 152 = .ok (.aload_n 0, 1) := dk_42 (dk_at dksX1_init_6 12 rfl rfl)
theorem dX1_init_153 : decode cX1_init 153 = .ok (.sipush 256, 3) := dk_17 1 0 (dk_at dksX1_init_6 13 rfl rfl)
theorem dX1_init_156 : decode cX1_init 156 = .ok (.newarray .int, 2) := dk_188_10 (dk_at dksX1_init_6 16 rfl rfl)
theorem dX1_init_158 : decode cX1_init 158 = .ok (.putfield 98, 3) := dk_181 0 98 (dk_at dksX1_init_6 18 rfl rfl)
theorem dX1_init_161 : decode cX1_init 161 = .ok (.iconst 0, 1) := dk_3 (dk_at dksX1_init_6 21 rfl rfl)
theorem dX1_init_162 : decode cX1_init 162 = .ok (.istore_n 1, 1) := dk_60 (dk_at dksX1_init_6 22 rfl rfl)
theorem dX1_init_163 : decode cX1_init 163 = .ok (.iload_n 1, 1) := dk_27 (dk_at dksX1_init_6 23 rfl rfl)
theorem dX1_init_164 : decode cX1_init 164 = .ok (.bipush 6, 2) := dk_16 6 (dk_at dksX1_init_7 0 rfl rfl)
theorem dX1_init_166 : decode cX1_init 166 = .ok (.if_icmp .ge 22, 3) := dk_162 0 22 (dk_at dksX1_init_7 2 rfl rfl)
theorem dX1_init_169 : decode cX1_init 169 = .ok (.aload_n 0, 1) := dk_42 (dk_at dksX1_init_7 5 rfl rfl)
theorem dX1_init_170 : decode cX1_init 170 = .ok (.getfield 55, 3) := dk_180 0 55 (dk_at dksX1_init_7 6 rfl rfl)
theorem dX1_init_173 : decode cX1_init 173 = .ok (.iload_n 1, 1) := dk_27 (dk_at dksX1_init_7 9 rfl rfl)
theorem dX1_init_174 : decode cX1_init 174 = .ok (.new 53, 3) := dk_187 0 53 (dk_at dksX1_init_7 10 rfl rfl)
theorem dX1_init_177 : decode cX1_init 177 = .ok (.dup, 1) := dk_89 (dk_at dksX1_init_7 13 rfl rfl)
theorem dX1_init_178 : decode cX1_init 178 = .ok (.invokespecial 101, 3) := dk_183 0 101 (dk_at dksX1_init_7 14 rfl rfl)
theorem dX1_init_181 : decode cX1_init 181 = .ok (.aastore, 1) := dk_83 (dk_at dksX1_init_7 17 rfl rfl)
theorem dX1_init_182 : decode cX1_init 182 = .ok (.iinc 1 1, 3) := dk_132 1 1 (dk_at dksX1_init_7 18 rfl rfl)
theorem dX1_init_185 : decode cX1_init 185 = .ok (.goto (-22), 3) := dk_167 255 234 (dk_at dksX1_init_7 21 rfl rfl)
theorem dX1_init_188 : decode cX1_init 188 = .ok (.return_, 1) := dk_177 (dk_at dksX1_init_8 0 rfl rfl)
abbrev cX1_feed : ByteArray := prog_1_method_5_code
def yX1_feed : MethodName := ⟨RX1, "feed", "(IIIII)I"⟩
def dkwX1_feed_2 : List UInt8 := [172]
abbrev dktX1_feed_2 : List UInt8 := dkwX1_feed_2 ++ []
def dkwX1_feed_1 : List UInt8 := [182, 0, 105, 42, 29, 182, 0, 105, 42, 21, 4, 182, 0, 105, 42, 21, 5, 182, 0, 105, 42, 180, 0, 102]
abbrev dktX1_feed_1 : List UInt8 := dkwX1_feed_1 ++ dktX1_feed_2
def dkwX1_feed_0 : List UInt8 := [42, 180, 0, 102, 16, 20, 96, 17, 1, 184, 164, 0, 5, 2, 172, 42, 27, 182, 0, 105, 42, 28]
abbrev dktX1_feed_0 : List UInt8 := dkwX1_feed_0 ++ dktX1_feed_1
theorem dksX1_feed_0 : cX1_feed.data.toList.drop 0 = dktX1_feed_0 := by decide +kernel
theorem dksX1_feed_1 : cX1_feed.data.toList.drop 22 = dktX1_feed_1 := dk_seg dksX1_feed_0 22 rfl rfl
theorem dksX1_feed_2 : cX1_feed.data.toList.drop 46 = dktX1_feed_2 := dk_seg dksX1_feed_1 24 rfl rfl
theorem dX1_feed_0 : decode cX1_feed 0 = .ok (.aload_n 0, 1) := dk_42 (dk_at dksX1_feed_0 0 rfl rfl)
theorem dX1_feed_1 : decode cX1_feed 1 = .ok (.getfield 102, 3) := dk_180 0 102 (dk_at dksX1_feed_0 1 rfl rfl)
theorem dX1_feed_4 : decode cX1_feed 4 = .ok (.bipush 20, 2) := dk_16 20 (dk_at dksX1_feed_0 4 rfl rfl)
theorem dX1_feed_6 : decode cX1_feed 6 = .ok (.iadd, 1) := dk_96 (dk_at dksX1_feed_0 6 rfl rfl)
theorem dX1_feed_7 : decode cX1_feed 7 = .ok (.sipush 440, 3) := dk_17 1 184 (dk_at dksX1_feed_0 7 rfl rfl)
theorem dX1_feed_10 : decode cX1_feed 10 = .ok (.if_icmp .le 5, 3) := dk_164 0 5 (dk_at dksX1_feed_0 10 rfl rfl)
theorem dX1_feed_13 : decode cX1_feed 13 = .ok (.iconst (-1), 1) := dk_2 (dk_at dksX1_feed_0 13 rfl rfl)
theorem dX1_feed_14 : decode cX1_feed 14 = .ok (.ireturn, 1) := dk_172 (dk_at dksX1_feed_0 14 rfl rfl)
theorem dX1_feed_15 : decode cX1_feed 15 = .ok (.aload_n 0, 1) := dk_42 (dk_at dksX1_feed_0 15 rfl rfl)
theorem dX1_feed_16 : decode cX1_feed 16 = .ok (.iload_n 1, 1) := dk_27 (dk_at dksX1_feed_0 16 rfl rfl)
theorem dX1_feed_17 : decode cX1_feed 17 = .ok (.invokevirtual 105, 3) := dk_182 0 105 (dk_at dksX1_feed_0 17 rfl rfl)
theorem dX1_feed_20 : decode cX1_feed 20 = .ok (.aload_n 0, 1) := dk_42 (dk_at dksX1_feed_0 20 rfl rfl)
theorem dX1_feed_21 : decode cX1_feed 21 = .ok (.iload_n 2, 1) := dk_28 (dk_at dksX1_feed_0 21 rfl rfl)
theorem dX1_feed_22 : decode cX1_feed 22 = .ok (.invokevirtual 105, 3) := dk_182 0 105 (dk_at dksX1_feed_1 0 rfl rfl)
theorem dX1_feed_25 : decode cX1_feed 25 = .ok (.aload_n 0, 1) := dk_42 (dk_at dksX1_feed_1 3 rfl rfl)
theorem dX1_feed_26 : decode cX1_feed 26 = .ok (.iload_n 3, 1) := dk_29 (dk_at dksX1_feed_1 4 rfl rfl)
theorem dX1_feed_27 : decode cX1_feed 27 = .ok (.invokevirtual 105, 3) := dk_182 0 105 (dk_at dksX1_feed_1 5 rfl rfl)
theorem dX1_feed_30 : decode cX1_feed 30 = .ok (.aload_n 0, 1) := dk_42 (dk_at dksX1_feed_1 8 rfl rfl)
theorem dX1_feed_31 : decode cX1_feed 31 = .ok (.iload 4, 2) := dk_21 4 (dk_at dksX1_feed_1 9 rfl rfl)
theorem dX1_feed_33 : decode cX1_feed 33 = .ok (.invokevirtual 105, 3) := dk_182 0 105 (dk_at dksX1_feed_1 11 rfl rfl)
theorem dX1_feed_36 : decode cX1_feed 36 = .ok (.aload_n 0, 1) := dk_42 (dk_at dksX1_feed_1 14 rfl rfl)
theorem dX1_feed_37 : decode cX1_feed 37 = .ok (.iload 5, 2) := dk_21 5 (dk_at dksX1_feed_1 15 rfl rfl)
theorem dX1_feed_39 : decode cX1_feed 39 = .ok (.invokevirtual 105, 3) := dk_182 0 105 (dk_at dksX1_feed_1 17 rfl rfl)
theorem dX1_feed_42 : decode cX1_feed 42 = .ok (.aload_n 0, 1) := dk_42 (dk_at dksX1_feed_1 20 rfl rfl)
theorem dX1_feed_43 : decode cX1_feed 43 = .ok (.getfield 102, 3) := dk_180 0 102 (dk_at dksX1_feed_1 21 rfl rfl)
theorem dX1_feed_46 : decode cX1_feed 46 = .ok (.ireturn, 1) := dk_172 (dk_at dksX1_feed_2 0 rfl rfl)
abbrev cX1_come : ByteArray := prog_1_method_4_code
def yX1_come : MethodName := ⟨RX1, "come", "(I)V"⟩
def dkwX1_come_1 : List UInt8 := [180, 0, 102, 4, 96, 181, 0, 102, 132, 2, 248, 167, 255, 226, 177]
abbrev dktX1_come_1 : List UInt8 := dkwX1_come_1 ++ []
def dkwX1_come_0 : List UInt8 := [16, 24, 61, 28, 155, 0, 32, 42, 180, 0, 32, 42, 180, 0, 102, 27, 28, 122, 145, 84, 42, 89]
abbrev dktX1_come_0 : List UInt8 := dkwX1_come_0 ++ dktX1_come_1
theorem dksX1_come_0 : cX1_come.data.toList.drop 0 = dktX1_come_0 := by decide +kernel
theorem dksX1_come_1 : cX1_come.data.toList.drop 22 = dktX1_come_1 := dk_seg dksX1_come_0 22 rfl rfl
theorem dX1_come_0 : decode cX1_come 0 = .ok (.bipush 24, 2) := dk_16 24 (dk_at dksX1_come_0 0 rfl rfl)
theorem dX1_come_2 : decode cX1_come 2 = .ok (.istore_n 2, 1) := dk_61 (dk_at dksX1_come_0 2 rfl rfl)
theorem dX1_come_3 : decode cX1_come 3 = .ok (.iload_n 2, 1) := dk_28 (dk_at dksX1_come_0 3 rfl rfl)
theorem dX1_come_4 : decode cX1_come 4 = .ok (.ifCond .lt 32, 3) := dk_155 0 32 (dk_at dksX1_come_0 4 rfl rfl)
theorem dX1_come_7 : decode cX1_come 7 = .ok (.aload_n 0, 1) := dk_42 (dk_at dksX1_come_0 7 rfl rfl)
theorem dX1_come_8 : decode cX1_come 8 = .ok (.getfield 32, 3) := dk_180 0 32 (dk_at dksX1_come_0 8 rfl rfl)
theorem dX1_come_11 : decode cX1_come 11 = .ok (.aload_n 0, 1) := dk_42 (dk_at dksX1_come_0 11 rfl rfl)
theorem dX1_come_12 : decode cX1_come 12 = .ok (.getfield 102, 3) := dk_180 0 102 (dk_at dksX1_come_0 12 rfl rfl)
theorem dX1_come_15 : decode cX1_come 15 = .ok (.iload_n 1, 1) := dk_27 (dk_at dksX1_come_0 15 rfl rfl)
theorem dX1_come_16 : decode cX1_come 16 = .ok (.iload_n 2, 1) := dk_28 (dk_at dksX1_come_0 16 rfl rfl)
theorem dX1_come_17 : decode cX1_come 17 = .ok (.ishr, 1) := dk_122 (dk_at dksX1_come_0 17 rfl rfl)
theorem dX1_come_18 : decode cX1_come 18 = .ok (.i2b, 1) := dk_145 (dk_at dksX1_come_0 18 rfl rfl)
theorem dX1_come_19 : decode cX1_come 19 = .ok (.bastore, 1) := dk_84 (dk_at dksX1_come_0 19 rfl rfl)
theorem dX1_come_20 : decode cX1_come 20 = .ok (.aload_n 0, 1) := dk_42 (dk_at dksX1_come_0 20 rfl rfl)
theorem dX1_come_21 : decode cX1_come 21 = .ok (.dup, 1) := dk_89 (dk_at dksX1_come_0 21 rfl rfl)
theorem dX1_come_22 : decode cX1_come 22 = .ok (.getfield 102, 3) := dk_180 0 102 (dk_at dksX1_come_1 0 rfl rfl)
theorem dX1_come_25 : decode cX1_come 25 = .ok (.iconst 1, 1) := dk_4 (dk_at dksX1_come_1 3 rfl rfl)
theorem dX1_come_26 : decode cX1_come 26 = .ok (.iadd, 1) := dk_96 (dk_at dksX1_come_1 4 rfl rfl)
theorem dX1_come_27 : decode cX1_come 27 = .ok (.putfield 102, 3) := dk_181 0 102 (dk_at dksX1_come_1 5 rfl rfl)
theorem dX1_come_30 : decode cX1_come 30 = .ok (.iinc 2 (-8), 3) := dk_132 2 248 (dk_at dksX1_come_1 8 rfl rfl)
theorem dX1_come_33 : decode cX1_come 33 = .ok (.goto (-30), 3) := dk_167 255 226 (dk_at dksX1_come_1 11 rfl rfl)
theorem dX1_come_36 : decode cX1_come 36 = .ok (.return_, 1) := dk_177 (dk_at dksX1_come_1 14 rfl rfl)
abbrev cX1_end : ByteArray := prog_1_method_6_code
def yX1_end : MethodName := ⟨RX1, "end", "(I)Z"⟩
def dkwX1_end_0 : List UInt8 := [27, 155, 0, 11, 27, 42, 180, 0, 102, 164, 0, 5, 3, 172, 42, 27, 181, 0, 102, 4, 172]
abbrev dktX1_end_0 : List UInt8 := dkwX1_end_0 ++ []
theorem dksX1_end_0 : cX1_end.data.toList.drop 0 = dktX1_end_0 := by decide +kernel
theorem dX1_end_0 : decode cX1_end 0 = .ok (.iload_n 1, 1) := dk_27 (dk_at dksX1_end_0 0 rfl rfl)
theorem dX1_end_1 : decode cX1_end 1 = .ok (.ifCond .lt 11, 3) := dk_155 0 11 (dk_at dksX1_end_0 1 rfl rfl)
theorem dX1_end_4 : decode cX1_end 4 = .ok (.iload_n 1, 1) := dk_27 (dk_at dksX1_end_0 4 rfl rfl)
theorem dX1_end_5 : decode cX1_end 5 = .ok (.aload_n 0, 1) := dk_42 (dk_at dksX1_end_0 5 rfl rfl)
theorem dX1_end_6 : decode cX1_end 6 = .ok (.getfield 102, 3) := dk_180 0 102 (dk_at dksX1_end_0 6 rfl rfl)
theorem dX1_end_9 : decode cX1_end 9 = .ok (.if_icmp .le 5, 3) := dk_164 0 5 (dk_at dksX1_end_0 9 rfl rfl)
theorem dX1_end_12 : decode cX1_end 12 = .ok (.iconst 0, 1) := dk_3 (dk_at dksX1_end_0 12 rfl rfl)
theorem dX1_end_13 : decode cX1_end 13 = .ok (.ireturn, 1) := dk_172 (dk_at dksX1_end_0 13 rfl rfl)
theorem dX1_end_14 : decode cX1_end 14 = .ok (.aload_n 0, 1) := dk_42 (dk_at dksX1_end_0 14 rfl rfl)
theorem dX1_end_15 : decode cX1_end 15 = .ok (.iload_n 1, 1) := dk_27 (dk_at dksX1_end_0 15 rfl rfl)
theorem dX1_end_16 : decode cX1_end 16 = .ok (.putfield 102, 3) := dk_181 0 102 (dk_at dksX1_end_0 16 rfl rfl)
theorem dX1_end_19 : decode cX1_end 19 = .ok (.iconst 1, 1) := dk_4 (dk_at dksX1_end_0 19 rfl rfl)
theorem dX1_end_20 : decode cX1_end 20 = .ok (.ireturn, 1) := dk_172 (dk_at dksX1_end_0 20 rfl rfl)
abbrev cX1_park : ByteArray := prog_1_method_9_code
def yX1_park : MethodName := ⟨RX1, "park", "(II)Z"⟩
def dkwX1_park_7 : List UInt8 := [25, 4, 181, 0, 39, 4, 172]
abbrev dktX1_park_7 : List UInt8 := dkwX1_park_7 ++ []
def dkwX1_park_6 : List UInt8 := [25, 4, 180, 0, 133, 21, 5, 42, 21, 5, 182, 0, 116, 7, 122, 79, 132, 5, 1, 167, 255, 189, 42]
abbrev dktX1_park_6 : List UInt8 := dkwX1_park_6 ++ dktX1_park_7
def dkwX1_park_5 : List UInt8 := [180, 0, 129, 21, 5, 42, 21, 5, 182, 0, 116, 16, 8, 126, 153, 0, 7, 4, 167, 0, 4, 3, 84]
abbrev dktX1_park_5 : List UInt8 := dkwX1_park_5 ++ dktX1_park_6
def dkwX1_park_4 : List UInt8 := [162, 0, 67, 25, 4, 180, 0, 126, 21, 5, 42, 21, 5, 182, 0, 116, 16, 7, 126, 79, 25, 4]
abbrev dktX1_park_4 : List UInt8 := dkwX1_park_4 ++ dktX1_park_5
def dkwX1_park_3 : List UInt8 := [183, 0, 38, 58, 4, 25, 4, 27, 181, 0, 120, 25, 4, 28, 181, 0, 123, 3, 54, 5, 21, 5, 29]
abbrev dktX1_park_3 : List UInt8 := dkwX1_park_3 ++ dktX1_park_4
def dkwX1_park_2 : List UInt8 := [182, 0, 116, 16, 7, 126, 16, 6, 164, 0, 5, 3, 172, 132, 4, 1, 167, 255, 231, 187, 0, 36, 89]
abbrev dktX1_park_2 : List UInt8 := dkwX1_park_2 ++ dktX1_park_3
def dkwX1_park_1 : List UInt8 := [153, 0, 10, 29, 27, 28, 104, 159, 0, 5, 3, 172, 3, 54, 4, 21, 4, 29, 162, 0, 25, 42, 21, 4]
abbrev dktX1_park_1 : List UInt8 := dkwX1_park_1 ++ dktX1_park_2
def dkwX1_park_0 : List UInt8 := [42, 182, 0, 109, 62, 27, 7, 16, 16, 184, 0, 112, 153, 0, 20, 28, 7, 16, 16, 184, 0, 112]
abbrev dktX1_park_0 : List UInt8 := dkwX1_park_0 ++ dktX1_park_1
theorem dksX1_park_0 : cX1_park.data.toList.drop 0 = dktX1_park_0 := by decide +kernel
theorem dksX1_park_1 : cX1_park.data.toList.drop 22 = dktX1_park_1 := dk_seg dksX1_park_0 22 rfl rfl
theorem dksX1_park_2 : cX1_park.data.toList.drop 46 = dktX1_park_2 := dk_seg dksX1_park_1 24 rfl rfl
theorem dksX1_park_3 : cX1_park.data.toList.drop 69 = dktX1_park_3 := dk_seg dksX1_park_2 23 rfl rfl
theorem dksX1_park_4 : cX1_park.data.toList.drop 92 = dktX1_park_4 := dk_seg dksX1_park_3 23 rfl rfl
theorem dksX1_park_5 : cX1_park.data.toList.drop 114 = dktX1_park_5 := dk_seg dksX1_park_4 22 rfl rfl
theorem dksX1_park_6 : cX1_park.data.toList.drop 137 = dktX1_park_6 := dk_seg dksX1_park_5 23 rfl rfl
theorem dksX1_park_7 : cX1_park.data.toList.drop 160 = dktX1_park_7 := dk_seg dksX1_park_6 23 rfl rfl
theorem dX1_park_0 : decode cX1_park 0 = .ok (.aload_n 0, 1) := dk_42 (dk_at dksX1_park_0 0 rfl rfl)
theorem dX1_park_1 : decode cX1_park 1 = .ok (.invokevirtual 109, 3) := dk_182 0 109 (dk_at dksX1_park_0 1 rfl rfl)
theorem dX1_park_4 : decode cX1_park 4 = .ok (.istore_n 3, 1) := dk_62 (dk_at dksX1_park_0 4 rfl rfl)
theorem dX1_park_5 : decode cX1_park 5 = .ok (.iload_n 1, 1) := dk_27 (dk_at dksX1_park_0 5 rfl rfl)
theorem dX1_park_6 : decode cX1_park 6 = .ok (.iconst 4, 1) := dk_7 (dk_at dksX1_park_0 6 rfl rfl)
theorem dX1_park_7 : decode cX1_park 7 = .ok (.bipush 16, 2) := dk_16 16 (dk_at dksX1_park_0 7 rfl rfl)
theorem dX1_park_9 : decode cX1_park 9 = .ok (.invokestatic 112, 3) := dk_184 0 112 (dk_at dksX1_park_0 9 rfl rfl)
theorem dX1_park_12 : decode cX1_park 12 = .ok (.ifCond .eq 20, 3) := dk_153 0 20 (dk_at dksX1_park_0 12 rfl rfl)
theorem dX1_park_15 : decode cX1_park 15 = .ok (.iload_n 2, 1) := dk_28 (dk_at dksX1_park_0 15 rfl rfl)
theorem dX1_park_16 : decode cX1_park 16 = .ok (.iconst 4, 1) := dk_7 (dk_at dksX1_park_0 16 rfl rfl)
theorem dX1_park_17 : decode cX1_park 17 = .ok (.bipush 16, 2) := dk_16 16 (dk_at dksX1_park_0 17 rfl rfl)
theorem dX1_park_19 : decode cX1_park 19 = .ok (.invokestatic 112, 3) := dk_184 0 112 (dk_at dksX1_park_0 19 rfl rfl)
theorem dX1_park_22 : decode cX1_park 22 = .ok (.ifCond .eq 10, 3) := dk_153 0 10 (dk_at dksX1_park_1 0 rfl rfl)
theorem dX1_park_25 : decode cX1_park 25 = .ok (.iload_n 3, 1) := dk_29 (dk_at dksX1_park_1 3 rfl rfl)
theorem dX1_park_26 : decode cX1_park 26 = .ok (.iload_n 1, 1) := dk_27 (dk_at dksX1_park_1 4 rfl rfl)
theorem dX1_park_27 : decode cX1_park 27 = .ok (.iload_n 2, 1) := dk_28 (dk_at dksX1_park_1 5 rfl rfl)
theorem dX1_park_28 : decode cX1_park 28 = .ok (.imul, 1) := dk_104 (dk_at dksX1_park_1 6 rfl rfl)
theorem dX1_park_29 : decode cX1_park 29 = .ok (.if_icmp .eq 5, 3) := dk_159 0 5 (dk_at dksX1_park_1 7 rfl rfl)
theorem dX1_park_32 : decode cX1_park 32 = .ok (.iconst 0, 1) := dk_3 (dk_at dksX1_park_1 10 rfl rfl)
theorem dX1_park_33 : decode cX1_park 33 = .ok (.ireturn, 1) := dk_172 (dk_at dksX1_park_1 11 rfl rfl)
theorem dX1_park_34 : decode cX1_park 34 = .ok (.iconst 0, 1) := dk_3 (dk_at dksX1_park_1 12 rfl rfl)
theorem dX1_park_35 : decode cX1_park 35 = .ok (.istore 4, 2) := dk_54 4 (dk_at dksX1_park_1 13 rfl rfl)
theorem dX1_park_37 : decode cX1_park 37 = .ok (.iload 4, 2) := dk_21 4 (dk_at dksX1_park_1 15 rfl rfl)
theorem dX1_park_39 : decode cX1_park 39 = .ok (.iload_n 3, 1) := dk_29 (dk_at dksX1_park_1 17 rfl rfl)
theorem dX1_park_40 : decode cX1_park 40 = .ok (.if_icmp .ge 25, 3) := dk_162 0 25 (dk_at dksX1_park_1 18 rfl rfl)
theorem dX1_park_43 : decode cX1_park 43 = .ok (.aload_n 0, 1) := dk_42 (dk_at dksX1_park_1 21 rfl rfl)
theorem dX1_park_44 : decode cX1_park 44 = .ok (.iload 4, 2) := dk_21 4 (dk_at dksX1_park_1 22 rfl rfl)
theorem dX1_park_46 : decode cX1_park 46 = .ok (.invokevirtual 116, 3) := dk_182 0 116 (dk_at dksX1_park_2 0 rfl rfl)
theorem dX1_park_49 : decode cX1_park 49 = .ok (.bipush 7, 2) := dk_16 7 (dk_at dksX1_park_2 3 rfl rfl)
theorem dX1_park_51 : decode cX1_park 51 = .ok (.iand, 1) := dk_126 (dk_at dksX1_park_2 5 rfl rfl)
theorem dX1_park_52 : decode cX1_park 52 = .ok (.bipush 6, 2) := dk_16 6 (dk_at dksX1_park_2 6 rfl rfl)
theorem dX1_park_54 : decode cX1_park 54 = .ok (.if_icmp .le 5, 3) := dk_164 0 5 (dk_at dksX1_park_2 8 rfl rfl)
theorem dX1_park_57 : decode cX1_park 57 = .ok (.iconst 0, 1) := dk_3 (dk_at dksX1_park_2 11 rfl rfl)
theorem dX1_park_58 : decode cX1_park 58 = .ok (.ireturn, 1) := dk_172 (dk_at dksX1_park_2 12 rfl rfl)
theorem dX1_park_59 : decode cX1_park 59 = .ok (.iinc 4 1, 3) := dk_132 4 1 (dk_at dksX1_park_2 13 rfl rfl)
theorem dX1_park_62 : decode cX1_park 62 = .ok (.goto (-25), 3) := dk_167 255 231 (dk_at dksX1_park_2 16 rfl rfl)
theorem dX1_park_65 : decode cX1_park 65 = .ok (.new 36, 3) := dk_187 0 36 (dk_at dksX1_park_2 19 rfl rfl)
theorem dX1_park_68 : decode cX1_park 68 = .ok (.dup, 1) := dk_89 (dk_at dksX1_park_2 22 rfl rfl)
theorem dX1_park_69 : decode cX1_park 69 = .ok (.invokespecial 38, 3) := dk_183 0 38 (dk_at dksX1_park_3 0 rfl rfl)
theorem dX1_park_72 : decode cX1_park 72 = .ok (.astore 4, 2) := dk_58 4 (dk_at dksX1_park_3 3 rfl rfl)
theorem dX1_park_74 : decode cX1_park 74 = .ok (.aload 4, 2) := dk_25 4 (dk_at dksX1_park_3 5 rfl rfl)
theorem dX1_park_76 : decode cX1_park 76 = .ok (.iload_n 1, 1) := dk_27 (dk_at dksX1_park_3 7 rfl rfl)
theorem dX1_park_77 : decode cX1_park 77 = .ok (.putfield 120, 3) := dk_181 0 120 (dk_at dksX1_park_3 8 rfl rfl)
theorem dX1_park_80 : decode cX1_park 80 = .ok (.aload 4, 2) := dk_25 4 (dk_at dksX1_park_3 11 rfl rfl)
theorem dX1_park_82 : decode cX1_park 82 = .ok (.iload_n 2, 1) := dk_28 (dk_at dksX1_park_3 13 rfl rfl)
theorem dX1_park_83 : decode cX1_park 83 = .ok (.putfield 123, 3) := dk_181 0 123 (dk_at dksX1_park_3 14 rfl rfl)
theorem dX1_park_86 : decode cX1_park 86 = .ok (.iconst 0, 1) := dk_3 (dk_at dksX1_park_3 17 rfl rfl)
theorem dX1_park_87 : decode cX1_park 87 = .ok (.istore 5, 2) := dk_54 5 (dk_at dksX1_park_3 18 rfl rfl)
theorem dX1_park_89 : decode cX1_park 89 = .ok (.iload 5, 2) := dk_21 5 (dk_at dksX1_park_3 20 rfl rfl)
theorem dX1_park_91 : decode cX1_park 91 = .ok (.iload_n 3, 1) := dk_29 (dk_at dksX1_park_3 22 rfl rfl)
theorem dX1_park_92 : decode cX1_park 92 = .ok (.if_icmp .ge 67, 3) := dk_162 0 67 (dk_at dksX1_park_4 0 rfl rfl)
theorem dX1_park_95 : decode cX1_park 95 = .ok (.aload 4, 2) := dk_25 4 (dk_at dksX1_park_4 3 rfl rfl)
theorem dX1_park_97 : decode cX1_park 97 = .ok (.getfield 126, 3) := dk_180 0 126 (dk_at dksX1_park_4 5 rfl rfl)
theorem dX1_park_100 : decode cX1_park 100 = .ok (.iload 5, 2) := dk_21 5 (dk_at dksX1_park_4 8 rfl rfl)
theorem dX1_park_102 : decode cX1_park 102 = .ok (.aload_n 0, 1) := dk_42 (dk_at dksX1_park_4 10 rfl rfl)
theorem dX1_park_103 : decode cX1_park 103 = .ok (.iload 5, 2) := dk_21 5 (dk_at dksX1_park_4 11 rfl rfl)
theorem dX1_park_105 : decode cX1_park 105 = .ok (.invokevirtual 116, 3) := dk_182 0 116 (dk_at dksX1_park_4 13 rfl rfl)
theorem dX1_park_108 : decode cX1_park 108 = .ok (.bipush 7, 2) := dk_16 7 (dk_at dksX1_park_4 16 rfl rfl)
theorem dX1_park_110 : decode cX1_park 110 = .ok (.iand, 1) := dk_126 (dk_at dksX1_park_4 18 rfl rfl)
theorem dX1_park_111 : decode cX1_park 111 = .ok (.iastore, 1) := dk_79 (dk_at dksX1_park_4 19 rfl rfl)
theorem dX1_park_112 : decode cX1_park 112 = .ok (.aload 4, 2) := dk_25 4 (dk_at dksX1_park_4 20 rfl rfl)
theorem dX1_park_114 : decode cX1_park 114 = .ok (.getfield 129, 3) := dk_180 0 129 (dk_at dksX1_park_5 0 rfl rfl)
theorem dX1_park_117 : decode cX1_park 117 = .ok (.iload 5, 2) := dk_21 5 (dk_at dksX1_park_5 3 rfl rfl)
theorem dX1_park_119 : decode cX1_park 119 = .ok (.aload_n 0, 1) := dk_42 (dk_at dksX1_park_5 5 rfl rfl)
theorem dX1_park_120 : decode cX1_park 120 = .ok (.iload 5, 2) := dk_21 5 (dk_at dksX1_park_5 6 rfl rfl)
theorem dX1_park_122 : decode cX1_park 122 = .ok (.invokevirtual 116, 3) := dk_182 0 116 (dk_at dksX1_park_5 8 rfl rfl)
theorem dX1_park_125 : decode cX1_park 125 = .ok (.bipush 8, 2) := dk_16 8 (dk_at dksX1_park_5 11 rfl rfl)
theorem dX1_park_127 : decode cX1_park 127 = .ok (.iand, 1) := dk_126 (dk_at dksX1_park_5 13 rfl rfl)
theorem dX1_park_128 : decode cX1_park 128 = .ok (.ifCond .eq 7, 3) := dk_153 0 7 (dk_at dksX1_park_5 14 rfl rfl)
theorem dX1_park_131 : decode cX1_park 131 = .ok (.iconst 1, 1) := dk_4 (dk_at dksX1_park_5 17 rfl rfl)
theorem dX1_park_132 : decode cX1_park 132 = .ok (.goto 4, 3) := dk_167 0 4 (dk_at dksX1_park_5 18 rfl rfl)
theorem dX1_park_135 : decode cX1_park 135 = .ok (.iconst 0, 1) := dk_3 (dk_at dksX1_park_5 21 rfl rfl)
theorem dX1_park_136 : decode cX1_park 136 = .ok (.bastore, 1) := dk_84 (dk_at dksX1_park_5 22 rfl rfl)
theorem dX1_park_137 : decode cX1_park 137 = .ok (.aload 4, 2) := dk_25 4 (dk_at dksX1_park_6 0 rfl rfl)
theorem dX1_park_139 : decode cX1_park 139 = .ok (.getfield 133, 3) := dk_180 0 133 (dk_at dksX1_park_6 2 rfl rfl)
theorem dX1_park_142 : decode cX1_park 142 = .ok (.iload 5, 2) := dk_21 5 (dk_at dksX1_park_6 5 rfl rfl)
theorem dX1_park_144 : decode cX1_park 144 = .ok (.aload_n 0, 1) := dk_42 (dk_at dksX1_park_6 7 rfl rfl)
theorem dX1_park_145 : decode cX1_park 145 = .ok (.iload 5, 2) := dk_21 5 (dk_at dksX1_park_6 8 rfl rfl)
theorem dX1_park_147 : decode cX1_park 147 = .ok (.invokevirtual 116, 3) := dk_182 0 116 (dk_at dksX1_park_6 10 rfl rfl)
theorem dX1_park_150 : decode cX1_park 150 = .ok (.iconst 4, 1) := dk_7 (dk_at dksX1_park_6 13 rfl rfl)
theorem dX1_park_151 : decode cX1_park 151 = .ok (.ishr, 1) := dk_122 (dk_at dksX1_park_6 14 rfl rfl)
theorem dX1_park_152 : decode cX1_park 152 = .ok (.iastore, 1) := dk_79 (dk_at dksX1_park_6 15 rfl rfl)
theorem dX1_park_153 : decode cX1_park 153 = .ok (.iinc 5 1, 3) := dk_132 5 1 (dk_at dksX1_park_6 16 rfl rfl)
theorem dX1_park_156 : decode cX1_park 156 = .ok (.goto (-67), 3) := dk_167 255 189 (dk_at dksX1_park_6 19 rfl rfl)
theorem dX1_park_159 : decode cX1_park 159 = .ok (.aload_n 0, 1) := dk_42 (dk_at dksX1_park_6 22 rfl rfl)
theorem dX1_park_160 : decode cX1_park 160 = .ok (.aload 4, 2) := dk_25 4 (dk_at dksX1_park_7 0 rfl rfl)
theorem dX1_park_162 : decode cX1_park 162 = .ok (.putfield 39, 3) := dk_181 0 39 (dk_at dksX1_park_7 2 rfl rfl)
theorem dX1_park_165 : decode cX1_park 165 = .ok (.iconst 1, 1) := dk_4 (dk_at dksX1_park_7 5 rfl rfl)
theorem dX1_park_166 : decode cX1_park 166 = .ok (.ireturn, 1) := dk_172 (dk_at dksX1_park_7 6 rfl rfl)
abbrev cX1_take : ByteArray := prog_1_method_7_code
def yX1_take : MethodName := ⟨RX1, "take", "()I"⟩
def dkwX1_take_0 : List UInt8 := [42, 180, 0, 102, 60, 42, 3, 181, 0, 102, 27, 172]
abbrev dktX1_take_0 : List UInt8 := dkwX1_take_0 ++ []
theorem dksX1_take_0 : cX1_take.data.toList.drop 0 = dktX1_take_0 := by decide +kernel
theorem dX1_take_0 : decode cX1_take 0 = .ok (.aload_n 0, 1) := dk_42 (dk_at dksX1_take_0 0 rfl rfl)
theorem dX1_take_1 : decode cX1_take 1 = .ok (.getfield 102, 3) := dk_180 0 102 (dk_at dksX1_take_0 1 rfl rfl)
theorem dX1_take_4 : decode cX1_take 4 = .ok (.istore_n 1, 1) := dk_60 (dk_at dksX1_take_0 4 rfl rfl)
theorem dX1_take_5 : decode cX1_take 5 = .ok (.aload_n 0, 1) := dk_42 (dk_at dksX1_take_0 5 rfl rfl)
theorem dX1_take_6 : decode cX1_take 6 = .ok (.iconst 0, 1) := dk_3 (dk_at dksX1_take_0 6 rfl rfl)
theorem dX1_take_7 : decode cX1_take 7 = .ok (.putfield 102, 3) := dk_181 0 102 (dk_at dksX1_take_0 7 rfl rfl)
theorem dX1_take_10 : decode cX1_take 10 = .ok (.iload_n 1, 1) := dk_27 (dk_at dksX1_take_0 10 rfl rfl)
theorem dX1_take_11 : decode cX1_take 11 = .ok (.ireturn, 1) := dk_172 (dk_at dksX1_take_0 11 rfl rfl)
abbrev cX1_isIn : ByteArray := prog_1_method_1_code
def yX1_isIn : MethodName := ⟨RX1, "isIn", "(III)Z"⟩
def dkwX1_isIn_0 : List UInt8 := [26, 27, 161, 0, 12, 26, 28, 163, 0, 7, 4, 167, 0, 4, 3, 172]
abbrev dktX1_isIn_0 : List UInt8 := dkwX1_isIn_0 ++ []
theorem dksX1_isIn_0 : cX1_isIn.data.toList.drop 0 = dktX1_isIn_0 := by decide +kernel
theorem dX1_isIn_0 : decode cX1_isIn 0 = .ok (.iload_n 0, 1) := dk_26 (dk_at dksX1_isIn_0 0 rfl rfl)
theorem dX1_isIn_1 : decode cX1_isIn 1 = .ok (.iload_n 1, 1) := dk_27 (dk_at dksX1_isIn_0 1 rfl rfl)
theorem dX1_isIn_2 : decode cX1_isIn 2 = .ok (.if_icmp .lt 12, 3) := dk_161 0 12 (dk_at dksX1_isIn_0 2 rfl rfl)
theorem dX1_isIn_5 : decode cX1_isIn 5 = .ok (.iload_n 0, 1) := dk_26 (dk_at dksX1_isIn_0 5 rfl rfl)
theorem dX1_isIn_6 : decode cX1_isIn 6 = .ok (.iload_n 2, 1) := dk_28 (dk_at dksX1_isIn_0 6 rfl rfl)
theorem dX1_isIn_7 : decode cX1_isIn 7 = .ok (.if_icmp .gt 7, 3) := dk_163 0 7 (dk_at dksX1_isIn_0 7 rfl rfl)
theorem dX1_isIn_10 : decode cX1_isIn 10 = .ok (.iconst 1, 1) := dk_4 (dk_at dksX1_isIn_0 10 rfl rfl)
theorem dX1_isIn_11 : decode cX1_isIn 11 = .ok (.goto 4, 3) := dk_167 0 4 (dk_at dksX1_isIn_0 11 rfl rfl)
theorem dX1_isIn_14 : decode cX1_isIn 14 = .ok (.iconst 0, 1) := dk_3 (dk_at dksX1_isIn_0 14 rfl rfl)
theorem dX1_isIn_15 : decode cX1_isIn 15 = .ok (.ireturn, 1) := dk_172 (dk_at dksX1_isIn_0 15 rfl rfl)
abbrev cX1_byteAt : ByteArray := prog_1_method_8_code
def yX1_byteAt : MethodName := ⟨RX1, "byteAt", "(I)I"⟩
def dkwX1_byteAt_0 : List UInt8 := [42, 180, 0, 32, 27, 51, 17, 0, 255, 126, 172]
abbrev dktX1_byteAt_0 : List UInt8 := dkwX1_byteAt_0 ++ []
theorem dksX1_byteAt_0 : cX1_byteAt.data.toList.drop 0 = dktX1_byteAt_0 := by decide +kernel
theorem dX1_byteAt_0 : decode cX1_byteAt 0 = .ok (.aload_n 0, 1) := dk_42 (dk_at dksX1_byteAt_0 0 rfl rfl)
theorem dX1_byteAt_1 : decode cX1_byteAt 1 = .ok (.getfield 32, 3) := dk_180 0 32 (dk_at dksX1_byteAt_0 1 rfl rfl)
theorem dX1_byteAt_4 : decode cX1_byteAt 4 = .ok (.iload_n 1, 1) := dk_27 (dk_at dksX1_byteAt_0 4 rfl rfl)
theorem dX1_byteAt_5 : decode cX1_byteAt 5 = .ok (.baload, 1) := dk_51 (dk_at dksX1_byteAt_0 5 rfl rfl)
theorem dX1_byteAt_6 : decode cX1_byteAt 6 = .ok (.sipush 255, 3) := dk_17 0 255 (dk_at dksX1_byteAt_0 6 rfl rfl)
theorem dX1_byteAt_9 : decode cX1_byteAt 9 = .ok (.iand, 1) := dk_126 (dk_at dksX1_byteAt_0 9 rfl rfl)
theorem dX1_byteAt_10 : decode cX1_byteAt 10 = .ok (.ireturn, 1) := dk_172 (dk_at dksX1_byteAt_0 10 rfl rfl)
abbrev cX1_door : ByteArray := prog_1_method_10_code
def yX1_door : MethodName := ⟨RX1, "door", "(I)I"⟩
def dkwX1_door_2 : List UInt8 := [27, 79, 44, 89, 180, 0, 136, 4, 96, 181, 0, 136, 44, 180, 0, 136, 4, 100, 172]
abbrev dktX1_door_2 : List UInt8 := dkwX1_door_2 ++ []
def dkwX1_door_1 : List UInt8 := [182, 0, 143, 153, 0, 11, 44, 27, 182, 0, 146, 153, 0, 5, 2, 172, 44, 180, 0, 149, 44, 180, 0, 136]
abbrev dktX1_door_1 : List UInt8 := dkwX1_door_1 ++ dktX1_door_2
def dkwX1_door_0 : List UInt8 := [42, 180, 0, 39, 77, 44, 180, 0, 136, 16, 9, 159, 0, 27, 44, 27, 182, 0, 139, 153, 0, 19, 44, 27]
abbrev dktX1_door_0 : List UInt8 := dkwX1_door_0 ++ dktX1_door_1
theorem dksX1_door_0 : cX1_door.data.toList.drop 0 = dktX1_door_0 := by decide +kernel
theorem dksX1_door_1 : cX1_door.data.toList.drop 24 = dktX1_door_1 := dk_seg dksX1_door_0 24 rfl rfl
theorem dksX1_door_2 : cX1_door.data.toList.drop 48 = dktX1_door_2 := dk_seg dksX1_door_1 24 rfl rfl
theorem dX1_door_0 : decode cX1_door 0 = .ok (.aload_n 0, 1) := dk_42 (dk_at dksX1_door_0 0 rfl rfl)
theorem dX1_door_1 : decode cX1_door 1 = .ok (.getfield 39, 3) := dk_180 0 39 (dk_at dksX1_door_0 1 rfl rfl)
theorem dX1_door_4 : decode cX1_door 4 = .ok (.astore_n 2, 1) := dk_77 (dk_at dksX1_door_0 4 rfl rfl)
theorem dX1_door_5 : decode cX1_door 5 = .ok (.aload_n 2, 1) := dk_44 (dk_at dksX1_door_0 5 rfl rfl)
theorem dX1_door_6 : decode cX1_door 6 = .ok (.getfield 136, 3) := dk_180 0 136 (dk_at dksX1_door_0 6 rfl rfl)
theorem dX1_door_9 : decode cX1_door 9 = .ok (.bipush 9, 2) := dk_16 9 (dk_at dksX1_door_0 9 rfl rfl)
theorem dX1_door_11 : decode cX1_door 11 = .ok (.if_icmp .eq 27, 3) := dk_159 0 27 (dk_at dksX1_door_0 11 rfl rfl)
theorem dX1_door_14 : decode cX1_door 14 = .ok (.aload_n 2, 1) := dk_44 (dk_at dksX1_door_0 14 rfl rfl)
theorem dX1_door_15 : decode cX1_door 15 = .ok (.iload_n 1, 1) := dk_27 (dk_at dksX1_door_0 15 rfl rfl)
theorem dX1_door_16 : decode cX1_door 16 = .ok (.invokevirtual 139, 3) := dk_182 0 139 (dk_at dksX1_door_0 16 rfl rfl)
theorem dX1_door_19 : decode cX1_door 19 = .ok (.ifCond .eq 19, 3) := dk_153 0 19 (dk_at dksX1_door_0 19 rfl rfl)
theorem dX1_door_22 : decode cX1_door 22 = .ok (.aload_n 2, 1) := dk_44 (dk_at dksX1_door_0 22 rfl rfl)
theorem dX1_door_23 : decode cX1_door 23 = .ok (.iload_n 1, 1) := dk_27 (dk_at dksX1_door_0 23 rfl rfl)
theorem dX1_door_24 : decode cX1_door 24 = .ok (.invokevirtual 143, 3) := dk_182 0 143 (dk_at dksX1_door_1 0 rfl rfl)
theorem dX1_door_27 : decode cX1_door 27 = .ok (.ifCond .eq 11, 3) := dk_153 0 11 (dk_at dksX1_door_1 3 rfl rfl)
theorem dX1_door_30 : decode cX1_door 30 = .ok (.aload_n 2, 1) := dk_44 (dk_at dksX1_door_1 6 rfl rfl)
theorem dX1_door_31 : decode cX1_door 31 = .ok (.iload_n 1, 1) := dk_27 (dk_at dksX1_door_1 7 rfl rfl)
theorem dX1_door_32 : decode cX1_door 32 = .ok (.invokevirtual 146, 3) := dk_182 0 146 (dk_at dksX1_door_1 8 rfl rfl)
theorem dX1_door_35 : decode cX1_door 35 = .ok (.ifCond .eq 5, 3) := dk_153 0 5 (dk_at dksX1_door_1 11 rfl rfl)
theorem dX1_door_38 : decode cX1_door 38 = .ok (.iconst (-1), 1) := dk_2 (dk_at dksX1_door_1 14 rfl rfl)
theorem dX1_door_39 : decode cX1_door 39 = .ok (.ireturn, 1) := dk_172 (dk_at dksX1_door_1 15 rfl rfl)
theorem dX1_door_40 : decode cX1_door 40 = .ok (.aload_n 2, 1) := dk_44 (dk_at dksX1_door_1 16 rfl rfl)
theorem dX1_door_41 : decode cX1_door 41 = .ok (.getfield 149, 3) := dk_180 0 149 (dk_at dksX1_door_1 17 rfl rfl)
theorem dX1_door_44 : decode cX1_door 44 = .ok (.aload_n 2, 1) := dk_44 (dk_at dksX1_door_1 20 rfl rfl)
theorem dX1_door_45 : decode cX1_door 45 = .ok (.getfield 136, 3) := dk_180 0 136 (dk_at dksX1_door_1 21 rfl rfl)
theorem dX1_door_48 : decode cX1_door 48 = .ok (.iload_n 1, 1) := dk_27 (dk_at dksX1_door_2 0 rfl rfl)
theorem dX1_door_49 : decode cX1_door 49 = .ok (.iastore, 1) := dk_79 (dk_at dksX1_door_2 1 rfl rfl)
theorem dX1_door_50 : decode cX1_door 50 = .ok (.aload_n 2, 1) := dk_44 (dk_at dksX1_door_2 2 rfl rfl)
theorem dX1_door_51 : decode cX1_door 51 = .ok (.dup, 1) := dk_89 (dk_at dksX1_door_2 3 rfl rfl)
theorem dX1_door_52 : decode cX1_door 52 = .ok (.getfield 136, 3) := dk_180 0 136 (dk_at dksX1_door_2 4 rfl rfl)
theorem dX1_door_55 : decode cX1_door 55 = .ok (.iconst 1, 1) := dk_4 (dk_at dksX1_door_2 7 rfl rfl)
theorem dX1_door_56 : decode cX1_door 56 = .ok (.iadd, 1) := dk_96 (dk_at dksX1_door_2 8 rfl rfl)
theorem dX1_door_57 : decode cX1_door 57 = .ok (.putfield 136, 3) := dk_181 0 136 (dk_at dksX1_door_2 9 rfl rfl)
theorem dX1_door_60 : decode cX1_door 60 = .ok (.aload_n 2, 1) := dk_44 (dk_at dksX1_door_2 12 rfl rfl)
theorem dX1_door_61 : decode cX1_door 61 = .ok (.getfield 136, 3) := dk_180 0 136 (dk_at dksX1_door_2 13 rfl rfl)
theorem dX1_door_64 : decode cX1_door 64 = .ok (.iconst 1, 1) := dk_4 (dk_at dksX1_door_2 16 rfl rfl)
theorem dX1_door_65 : decode cX1_door 65 = .ok (.isub, 1) := dk_100 (dk_at dksX1_door_2 17 rfl rfl)
theorem dX1_door_66 : decode cX1_door 66 = .ok (.ireturn, 1) := dk_172 (dk_at dksX1_door_2 18 rfl rfl)
abbrev cX1_law : ByteArray := prog_1_method_11_code
def yX1_law : MethodName := ⟨RX1, "law", "()I"⟩
def dkwX1_law_2 : List UInt8 := [180, 0, 171, 100, 172]
abbrev dktX1_law_2 : List UInt8 := dkwX1_law_2 ++ []
def dkwX1_law_1 : List UInt8 := [44, 182, 0, 160, 181, 0, 49, 44, 180, 0, 164, 172, 77, 42, 44, 180, 0, 169, 181, 0, 152, 2, 44]
abbrev dktX1_law_1 : List UInt8 := dkwX1_law_1 ++ dktX1_law_2
def dkwX1_law_0 : List UInt8 := [42, 182, 0, 109, 60, 42, 3, 181, 0, 152, 187, 0, 155, 89, 42, 180, 0, 32, 27, 183, 0, 157, 77, 42]
abbrev dktX1_law_0 : List UInt8 := dkwX1_law_0 ++ dktX1_law_1
theorem dksX1_law_0 : cX1_law.data.toList.drop 0 = dktX1_law_0 := by decide +kernel
theorem dksX1_law_1 : cX1_law.data.toList.drop 24 = dktX1_law_1 := dk_seg dksX1_law_0 24 rfl rfl
theorem dksX1_law_2 : cX1_law.data.toList.drop 47 = dktX1_law_2 := dk_seg dksX1_law_1 23 rfl rfl
theorem dX1_law_0 : decode cX1_law 0 = .ok (.aload_n 0, 1) := dk_42 (dk_at dksX1_law_0 0 rfl rfl)
theorem dX1_law_1 : decode cX1_law 1 = .ok (.invokevirtual 109, 3) := dk_182 0 109 (dk_at dksX1_law_0 1 rfl rfl)
theorem dX1_law_4 : decode cX1_law 4 = .ok (.istore_n 1, 1) := dk_60 (dk_at dksX1_law_0 4 rfl rfl)
theorem dX1_law_5 : decode cX1_law 5 = .ok (.aload_n 0, 1) := dk_42 (dk_at dksX1_law_0 5 rfl rfl)
theorem dX1_law_6 : decode cX1_law 6 = .ok (.iconst 0, 1) := dk_3 (dk_at dksX1_law_0 6 rfl rfl)
theorem dX1_law_7 : decode cX1_law 7 = .ok (.putfield 152, 3) := dk_181 0 152 (dk_at dksX1_law_0 7 rfl rfl)
theorem dX1_law_10 : decode cX1_law 10 = .ok (.new 155, 3) := dk_187 0 155 (dk_at dksX1_law_0 10 rfl rfl)
theorem dX1_law_13 : decode cX1_law 13 = .ok (.dup, 1) := dk_89 (dk_at dksX1_law_0 13 rfl rfl)
theorem dX1_law_14 : decode cX1_law 14 = .ok (.aload_n 0, 1) := dk_42 (dk_at dksX1_law_0 14 rfl rfl)
theorem dX1_law_15 : decode cX1_law 15 = .ok (.getfield 32, 3) := dk_180 0 32 (dk_at dksX1_law_0 15 rfl rfl)
theorem dX1_law_18 : decode cX1_law 18 = .ok (.iload_n 1, 1) := dk_27 (dk_at dksX1_law_0 18 rfl rfl)
theorem dX1_law_19 : decode cX1_law 19 = .ok (.invokespecial 157, 3) := dk_183 0 157 (dk_at dksX1_law_0 19 rfl rfl)
theorem dX1_law_22 : decode cX1_law 22 = .ok (.astore_n 2, 1) := dk_77 (dk_at dksX1_law_0 22 rfl rfl)
theorem dX1_law_23 : decode cX1_law 23 = .ok (.aload_n 0, 1) := dk_42 (dk_at dksX1_law_0 23 rfl rfl)
theorem dX1_law_24 : decode cX1_law 24 = .ok (.aload_n 2, 1) := dk_44 (dk_at dksX1_law_1 0 rfl rfl)
theorem dX1_law_25 : decode cX1_law 25 = .ok (.invokevirtual 160, 3) := dk_182 0 160 (dk_at dksX1_law_1 1 rfl rfl)
theorem dX1_law_28 : decode cX1_law 28 = .ok (.putfield 49, 3) := dk_181 0 49 (dk_at dksX1_law_1 4 rfl rfl)
theorem dX1_law_31 : decode cX1_law 31 = .ok (.aload_n 2, 1) := dk_44 (dk_at dksX1_law_1 7 rfl rfl)
theorem dX1_law_32 : decode cX1_law 32 = .ok (.getfield 164, 3) := dk_180 0 164 (dk_at dksX1_law_1 8 rfl rfl)
theorem dX1_law_35 : decode cX1_law 35 = .ok (.ireturn, 1) := dk_172 (dk_at dksX1_law_1 11 rfl rfl)
theorem dX1_law_36 : decode cX1_law 36 = .ok (.astore_n 2, 1) := dk_77 (dk_at dksX1_law_1 12 rfl rfl)
theorem dX1_law_37 : decode cX1_law 37 = .ok (.aload_n 0, 1) := dk_42 (dk_at dksX1_law_1 13 rfl rfl)
theorem dX1_law_38 : decode cX1_law 38 = .ok (.aload_n 2, 1) := dk_44 (dk_at dksX1_law_1 14 rfl rfl)
theorem dX1_law_39 : decode cX1_law 39 = .ok (.getfield 169, 3) := dk_180 0 169 (dk_at dksX1_law_1 15 rfl rfl)
theorem dX1_law_42 : decode cX1_law 42 = .ok (.putfield 152, 3) := dk_181 0 152 (dk_at dksX1_law_1 18 rfl rfl)
theorem dX1_law_45 : decode cX1_law 45 = .ok (.iconst (-1), 1) := dk_2 (dk_at dksX1_law_1 21 rfl rfl)
theorem dX1_law_46 : decode cX1_law 46 = .ok (.aload_n 2, 1) := dk_44 (dk_at dksX1_law_1 22 rfl rfl)
theorem dX1_law_47 : decode cX1_law 47 = .ok (.getfield 171, 3) := dk_180 0 171 (dk_at dksX1_law_2 0 rfl rfl)
theorem dX1_law_50 : decode cX1_law 50 = .ok (.isub, 1) := dk_100 (dk_at dksX1_law_2 3 rfl rfl)
theorem dX1_law_51 : decode cX1_law 51 = .ok (.ireturn, 1) := dk_172 (dk_at dksX1_law_2 4 rfl rfl)
abbrev cX1_habit : ByteArray := prog_1_method_13_code
def yX1_habit : MethodName := ⟨RX1, "habit", "(I)I"⟩
def dkwX1_habit_2 : List UInt8 := [172, 78, 42, 45, 180, 0, 169, 181, 0, 152, 2, 45, 180, 0, 171, 100, 172]
abbrev dktX1_habit_2 : List UInt8 := dkwX1_habit_2 ++ []
def dkwX1_habit_1 : List UInt8 := [89, 42, 180, 0, 32, 28, 183, 0, 157, 78, 42, 180, 0, 55, 27, 45, 182, 0, 177, 83, 45, 180, 0, 164]
abbrev dktX1_habit_1 : List UInt8 := dkwX1_habit_1 ++ dktX1_habit_2
def dkwX1_habit_0 : List UInt8 := [42, 182, 0, 109, 61, 27, 184, 0, 174, 154, 0, 7, 17, 252, 24, 172, 42, 3, 181, 0, 152, 187, 0, 155]
abbrev dktX1_habit_0 : List UInt8 := dkwX1_habit_0 ++ dktX1_habit_1
theorem dksX1_habit_0 : cX1_habit.data.toList.drop 0 = dktX1_habit_0 := by decide +kernel
theorem dksX1_habit_1 : cX1_habit.data.toList.drop 24 = dktX1_habit_1 := dk_seg dksX1_habit_0 24 rfl rfl
theorem dksX1_habit_2 : cX1_habit.data.toList.drop 48 = dktX1_habit_2 := dk_seg dksX1_habit_1 24 rfl rfl
theorem dX1_habit_0 : decode cX1_habit 0 = .ok (.aload_n 0, 1) := dk_42 (dk_at dksX1_habit_0 0 rfl rfl)
theorem dX1_habit_1 : decode cX1_habit 1 = .ok (.invokevirtual 109, 3) := dk_182 0 109 (dk_at dksX1_habit_0 1 rfl rfl)
theorem dX1_habit_4 : decode cX1_habit 4 = .ok (.istore_n 2, 1) := dk_61 (dk_at dksX1_habit_0 4 rfl rfl)
theorem dX1_habit_5 : decode cX1_habit 5 = .ok (.iload_n 1, 1) := dk_27 (dk_at dksX1_habit_0 5 rfl rfl)
theorem dX1_habit_6 : decode cX1_habit 6 = .ok (.invokestatic 174, 3) := dk_184 0 174 (dk_at dksX1_habit_0 6 rfl rfl)
theorem dX1_habit_9 : decode cX1_habit 9 = .ok (.ifCond .ne 7, 3) := dk_154 0 7 (dk_at dksX1_habit_0 9 rfl rfl)
theorem dX1_habit_12 : decode cX1_habit 12 = .ok (.sipush (-1000), 3) := dk_17 252 24 (dk_at dksX1_habit_0 12 rfl rfl)
theorem dX1_habit_15 : decode cX1_habit 15 = .ok (.ireturn, 1) := dk_172 (dk_at dksX1_habit_0 15 rfl rfl)
theorem dX1_habit_16 : decode cX1_habit 16 = .ok (.aload_n 0, 1) := dk_42 (dk_at dksX1_habit_0 16 rfl rfl)
theorem dX1_habit_17 : decode cX1_habit 17 = .ok (.iconst 0, 1) := dk_3 (dk_at dksX1_habit_0 17 rfl rfl)
theorem dX1_habit_18 : decode cX1_habit 18 = .ok (.putfield 152, 3) := dk_181 0 152 (dk_at dksX1_habit_0 18 rfl rfl)
theorem dX1_habit_21 : decode cX1_habit 21 = .ok (.new 155, 3) := dk_187 0 155 (dk_at dksX1_habit_0 21 rfl rfl)
theorem dX1_habit_24 : decode cX1_habit 24 = .ok (.dup, 1) := dk_89 (dk_at dksX1_habit_1 0 rfl rfl)
theorem dX1_habit_25 : decode cX1_habit 25 = .ok (.aload_n 0, 1) := dk_42 (dk_at dksX1_habit_1 1 rfl rfl)
theorem dX1_habit_26 : decode cX1_habit 26 = .ok (.getfield 32, 3) := dk_180 0 32 (dk_at dksX1_habit_1 2 rfl rfl)
theorem dX1_habit_29 : decode cX1_habit 29 = .ok (.iload_n 2, 1) := dk_28 (dk_at dksX1_habit_1 5 rfl rfl)
theorem dX1_habit_30 : decode cX1_habit 30 = .ok (.invokespecial 157, 3) := dk_183 0 157 (dk_at dksX1_habit_1 6 rfl rfl)
theorem dX1_habit_33 : decode cX1_habit 33 = .ok (.astore_n 3, 1) := dk_78 (dk_at dksX1_habit_1 9 rfl rfl)
theorem dX1_habit_34 : decode cX1_habit 34 = .ok (.aload_n 0, 1) := dk_42 (dk_at dksX1_habit_1 10 rfl rfl)
theorem dX1_habit_35 : decode cX1_habit 35 = .ok (.getfield 55, 3) := dk_180 0 55 (dk_at dksX1_habit_1 11 rfl rfl)
theorem dX1_habit_38 : decode cX1_habit 38 = .ok (.iload_n 1, 1) := dk_27 (dk_at dksX1_habit_1 14 rfl rfl)
theorem dX1_habit_39 : decode cX1_habit 39 = .ok (.aload_n 3, 1) := dk_45 (dk_at dksX1_habit_1 15 rfl rfl)
theorem dX1_habit_40 : decode cX1_habit 40 = .ok (.invokevirtual 177, 3) := dk_182 0 177 (dk_at dksX1_habit_1 16 rfl rfl)
theorem dX1_habit_43 : decode cX1_habit 43 = .ok (.aastore, 1) := dk_83 (dk_at dksX1_habit_1 19 rfl rfl)
theorem dX1_habit_44 : decode cX1_habit 44 = .ok (.aload_n 3, 1) := dk_45 (dk_at dksX1_habit_1 20 rfl rfl)
theorem dX1_habit_45 : decode cX1_habit 45 = .ok (.getfield 164, 3) := dk_180 0 164 (dk_at dksX1_habit_1 21 rfl rfl)
theorem dX1_habit_48 : decode cX1_habit 48 = .ok (.ireturn, 1) := dk_172 (dk_at dksX1_habit_2 0 rfl rfl)
theorem dX1_habit_49 : decode cX1_habit 49 = .ok (.astore_n 3, 1) := dk_78 (dk_at dksX1_habit_2 1 rfl rfl)
theorem dX1_habit_50 : decode cX1_habit 50 = .ok (.aload_n 0, 1) := dk_42 (dk_at dksX1_habit_2 2 rfl rfl)
theorem dX1_habit_51 : decode cX1_habit 51 = .ok (.aload_n 3, 1) := dk_45 (dk_at dksX1_habit_2 3 rfl rfl)
theorem dX1_habit_52 : decode cX1_habit 52 = .ok (.getfield 169, 3) := dk_180 0 169 (dk_at dksX1_habit_2 4 rfl rfl)
theorem dX1_habit_55 : decode cX1_habit 55 = .ok (.putfield 152, 3) := dk_181 0 152 (dk_at dksX1_habit_2 7 rfl rfl)
theorem dX1_habit_58 : decode cX1_habit 58 = .ok (.iconst (-1), 1) := dk_2 (dk_at dksX1_habit_2 10 rfl rfl)
theorem dX1_habit_59 : decode cX1_habit 59 = .ok (.aload_n 3, 1) := dk_45 (dk_at dksX1_habit_2 11 rfl rfl)
theorem dX1_habit_60 : decode cX1_habit 60 = .ok (.getfield 171, 3) := dk_180 0 171 (dk_at dksX1_habit_2 12 rfl rfl)
theorem dX1_habit_63 : decode cX1_habit 63 = .ok (.isub, 1) := dk_100 (dk_at dksX1_habit_2 15 rfl rfl)
theorem dX1_habit_64 : decode cX1_habit 64 = .ok (.ireturn, 1) := dk_172 (dk_at dksX1_habit_2 16 rfl rfl)
abbrev cX1_isHabit : ByteArray := prog_1_method_12_code
def yX1_isHabit : MethodName := ⟨RX1, "isHabit", "(I)Z"⟩
def dkwX1_isHabit_0 : List UInt8 := [26, 3, 8, 184, 0, 112, 172]
abbrev dktX1_isHabit_0 : List UInt8 := dkwX1_isHabit_0 ++ []
theorem dksX1_isHabit_0 : cX1_isHabit.data.toList.drop 0 = dktX1_isHabit_0 := by decide +kernel
theorem dX1_isHabit_0 : decode cX1_isHabit 0 = .ok (.iload_n 0, 1) := dk_26 (dk_at dksX1_isHabit_0 0 rfl rfl)
theorem dX1_isHabit_1 : decode cX1_isHabit 1 = .ok (.iconst 0, 1) := dk_3 (dk_at dksX1_isHabit_0 1 rfl rfl)
theorem dX1_isHabit_2 : decode cX1_isHabit 2 = .ok (.iconst 5, 1) := dk_8 (dk_at dksX1_isHabit_0 2 rfl rfl)
theorem dX1_isHabit_3 : decode cX1_isHabit 3 = .ok (.invokestatic 112, 3) := dk_184 0 112 (dk_at dksX1_isHabit_0 3 rfl rfl)
theorem dX1_isHabit_6 : decode cX1_isHabit 6 = .ok (.ireturn, 1) := dk_172 (dk_at dksX1_isHabit_0 6 rfl rfl)
abbrev cX1_fault : ByteArray := prog_1_method_14_code
def yX1_fault : MethodName := ⟨RX1, "fault", "()I"⟩
theorem dX1_fault_0 : decode cX1_fault 0 = .ok (.aload_n 0, 1) := by decide +kernel
theorem dX1_fault_1 : decode cX1_fault 1 = .ok (.getfield 152, 3) := by decide +kernel
theorem dX1_fault_4 : decode cX1_fault 4 = .ok (.ireturn, 1) := by decide +kernel
abbrev cX1_wish : ByteArray := prog_1_method_17_code
def yX1_wish : MethodName := ⟨RX1, "wish", "(IIIII)I"⟩
def dkwX1_wish_3 : List UInt8 := [21, 5, 183, 0, 193, 182, 0, 196, 87, 42, 180, 0, 39, 180, 0, 182, 182, 0, 3, 4, 100, 172]
abbrev dktX1_wish_3 : List UInt8 := dkwX1_wish_3 ++ []
def dkwX1_wish_2 : List UInt8 := [184, 0, 112, 154, 0, 5, 2, 172, 42, 180, 0, 39, 180, 0, 182, 187, 0, 191, 89, 27, 28, 29, 21, 4]
abbrev dktX1_wish_2 : List UInt8 := dkwX1_wish_2 ++ dktX1_wish_3
def dkwX1_wish_1 : List UInt8 := [29, 184, 0, 174, 153, 0, 26, 21, 4, 4, 17, 0, 200, 184, 0, 112, 153, 0, 14, 21, 5, 3, 18, 190]
abbrev dktX1_wish_1 : List UInt8 := dkwX1_wish_1 ++ dktX1_wish_2
def dkwX1_wish_0 : List UInt8 := [42, 180, 0, 39, 180, 0, 182, 182, 0, 3, 16, 24, 159, 0, 42, 42, 27, 28, 182, 0, 186, 153, 0, 33]
abbrev dktX1_wish_0 : List UInt8 := dkwX1_wish_0 ++ dktX1_wish_1
theorem dksX1_wish_0 : cX1_wish.data.toList.drop 0 = dktX1_wish_0 := by decide +kernel
theorem dksX1_wish_1 : cX1_wish.data.toList.drop 24 = dktX1_wish_1 := dk_seg dksX1_wish_0 24 rfl rfl
theorem dksX1_wish_2 : cX1_wish.data.toList.drop 48 = dktX1_wish_2 := dk_seg dksX1_wish_1 24 rfl rfl
theorem dksX1_wish_3 : cX1_wish.data.toList.drop 72 = dktX1_wish_3 := dk_seg dksX1_wish_2 24 rfl rfl
theorem dX1_wish_0 : decode cX1_wish 0 = .ok (.aload_n 0, 1) := dk_42 (dk_at dksX1_wish_0 0 rfl rfl)
theorem dX1_wish_1 : decode cX1_wish 1 = .ok (.getfield 39, 3) := dk_180 0 39 (dk_at dksX1_wish_0 1 rfl rfl)
theorem dX1_wish_4 : decode cX1_wish 4 = .ok (.getfield 182, 3) := dk_180 0 182 (dk_at dksX1_wish_0 4 rfl rfl)
theorem dX1_wish_7 : decode cX1_wish 7 = .ok (.invokevirtual 3, 3) := dk_182 0 3 (dk_at dksX1_wish_0 7 rfl rfl)
theorem dX1_wish_10 : decode cX1_wish 10 = .ok (.bipush 24, 2) := dk_16 24 (dk_at dksX1_wish_0 10 rfl rfl)
theorem dX1_wish_12 : decode cX1_wish 12 = .ok (.if_icmp .eq 42, 3) := dk_159 0 42 (dk_at dksX1_wish_0 12 rfl rfl)
theorem dX1_wish_15 : decode cX1_wish 15 = .ok (.aload_n 0, 1) := dk_42 (dk_at dksX1_wish_0 15 rfl rfl)
theorem dX1_wish_16 : decode cX1_wish 16 = .ok (.iload_n 1, 1) := dk_27 (dk_at dksX1_wish_0 16 rfl rfl)
theorem dX1_wish_17 : decode cX1_wish 17 = .ok (.iload_n 2, 1) := dk_28 (dk_at dksX1_wish_0 17 rfl rfl)
theorem dX1_wish_18 : decode cX1_wish 18 = .ok (.invokevirtual 186, 3) := dk_182 0 186 (dk_at dksX1_wish_0 18 rfl rfl)
theorem dX1_wish_21 : decode cX1_wish 21 = .ok (.ifCond .eq 33, 3) := dk_153 0 33 (dk_at dksX1_wish_0 21 rfl rfl)
theorem dX1_wish_24 : decode cX1_wish 24 = .ok (.iload_n 3, 1) := dk_29 (dk_at dksX1_wish_1 0 rfl rfl)
theorem dX1_wish_25 : decode cX1_wish 25 = .ok (.invokestatic 174, 3) := dk_184 0 174 (dk_at dksX1_wish_1 1 rfl rfl)
theorem dX1_wish_28 : decode cX1_wish 28 = .ok (.ifCond .eq 26, 3) := dk_153 0 26 (dk_at dksX1_wish_1 4 rfl rfl)
theorem dX1_wish_31 : decode cX1_wish 31 = .ok (.iload 4, 2) := dk_21 4 (dk_at dksX1_wish_1 7 rfl rfl)
theorem dX1_wish_33 : decode cX1_wish 33 = .ok (.iconst 1, 1) := dk_4 (dk_at dksX1_wish_1 9 rfl rfl)
theorem dX1_wish_34 : decode cX1_wish 34 = .ok (.sipush 200, 3) := dk_17 0 200 (dk_at dksX1_wish_1 10 rfl rfl)
theorem dX1_wish_37 : decode cX1_wish 37 = .ok (.invokestatic 112, 3) := dk_184 0 112 (dk_at dksX1_wish_1 13 rfl rfl)
theorem dX1_wish_40 : decode cX1_wish 40 = .ok (.ifCond .eq 14, 3) := dk_153 0 14 (dk_at dksX1_wish_1 16 rfl rfl)
theorem dX1_wish_43 : decode cX1_wish 43 = .ok (.iload 5, 2) := dk_21 5 (dk_at dksX1_wish_1 19 rfl rfl)
theorem dX1_wish_45 : decode cX1_wish 45 = .ok (.iconst 0, 1) := dk_3 (dk_at dksX1_wish_1 21 rfl rfl)
theorem dX1_wish_46 : decode cX1_wish 46 = .ok (.ldc 190, 2) := dk_18 190 (dk_at dksX1_wish_1 22 rfl rfl)
theorem dX1_wish_48 : decode cX1_wish 48 = .ok (.invokestatic 112, 3) := dk_184 0 112 (dk_at dksX1_wish_2 0 rfl rfl)
theorem dX1_wish_51 : decode cX1_wish 51 = .ok (.ifCond .ne 5, 3) := dk_154 0 5 (dk_at dksX1_wish_2 3 rfl rfl)
theorem dX1_wish_54 : decode cX1_wish 54 = .ok (.iconst (-1), 1) := dk_2 (dk_at dksX1_wish_2 6 rfl rfl)
theorem dX1_wish_55 : decode cX1_wish 55 = .ok (.ireturn, 1) := dk_172 (dk_at dksX1_wish_2 7 rfl rfl)
theorem dX1_wish_56 : decode cX1_wish 56 = .ok (.aload_n 0, 1) := dk_42 (dk_at dksX1_wish_2 8 rfl rfl)
theorem dX1_wish_57 : decode cX1_wish 57 = .ok (.getfield 39, 3) := dk_180 0 39 (dk_at dksX1_wish_2 9 rfl rfl)
theorem dX1_wish_60 : decode cX1_wish 60 = .ok (.getfield 182, 3) := dk_180 0 182 (dk_at dksX1_wish_2 12 rfl rfl)
theorem dX1_wish_63 : decode cX1_wish 63 = .ok (.new 191, 3) := dk_187 0 191 (dk_at dksX1_wish_2 15 rfl rfl)
theorem dX1_wish_66 : decode cX1_wish 66 = .ok (.dup, 1) := dk_89 (dk_at dksX1_wish_2 18 rfl rfl)
theorem dX1_wish_67 : decode cX1_wish 67 = .ok (.iload_n 1, 1) := dk_27 (dk_at dksX1_wish_2 19 rfl rfl)
theorem dX1_wish_68 : decode cX1_wish 68 = .ok (.iload_n 2, 1) := dk_28 (dk_at dksX1_wish_2 20 rfl rfl)
theorem dX1_wish_69 : decode cX1_wish 69 = .ok (.iload_n 3, 1) := dk_29 (dk_at dksX1_wish_2 21 rfl rfl)
theorem dX1_wish_70 : decode cX1_wish 70 = .ok (.iload 4, 2) := dk_21 4 (dk_at dksX1_wish_2 22 rfl rfl)
theorem dX1_wish_72 : decode cX1_wish 72 = .ok (.iload 5, 2) := dk_21 5 (dk_at dksX1_wish_3 0 rfl rfl)
theorem dX1_wish_74 : decode cX1_wish 74 = .ok (.invokespecial 193, 3) := dk_183 0 193 (dk_at dksX1_wish_3 2 rfl rfl)
theorem dX1_wish_77 : decode cX1_wish 77 = .ok (.invokevirtual 196, 3) := dk_182 0 196 (dk_at dksX1_wish_3 5 rfl rfl)
theorem dX1_wish_80 : decode cX1_wish 80 = .ok (.pop, 1) := dk_87 (dk_at dksX1_wish_3 8 rfl rfl)
theorem dX1_wish_81 : decode cX1_wish 81 = .ok (.aload_n 0, 1) := dk_42 (dk_at dksX1_wish_3 9 rfl rfl)
theorem dX1_wish_82 : decode cX1_wish 82 = .ok (.getfield 39, 3) := dk_180 0 39 (dk_at dksX1_wish_3 10 rfl rfl)
theorem dX1_wish_85 : decode cX1_wish 85 = .ok (.getfield 182, 3) := dk_180 0 182 (dk_at dksX1_wish_3 13 rfl rfl)
theorem dX1_wish_88 : decode cX1_wish 88 = .ok (.invokevirtual 3, 3) := dk_182 0 3 (dk_at dksX1_wish_3 16 rfl rfl)
theorem dX1_wish_91 : decode cX1_wish 91 = .ok (.iconst 1, 1) := dk_4 (dk_at dksX1_wish_3 19 rfl rfl)
theorem dX1_wish_92 : decode cX1_wish 92 = .ok (.isub, 1) := dk_100 (dk_at dksX1_wish_3 20 rfl rfl)
theorem dX1_wish_93 : decode cX1_wish 93 = .ok (.ireturn, 1) := dk_172 (dk_at dksX1_wish_3 21 rfl rfl)
abbrev cX1_areDoors : ByteArray := prog_1_method_16_code
def yX1_areDoors : MethodName := ⟨RX1, "areDoors", "(II)Z"⟩
def dkwX1_areDoors_1 : List UInt8 := [167, 0, 4, 3, 172]
abbrev dktX1_areDoors_1 : List UInt8 := dkwX1_areDoors_1 ++ []
def dkwX1_areDoors_0 : List UInt8 := [42, 27, 182, 0, 181, 153, 0, 20, 42, 28, 182, 0, 181, 153, 0, 12, 27, 28, 159, 0, 7, 4]
abbrev dktX1_areDoors_0 : List UInt8 := dkwX1_areDoors_0 ++ dktX1_areDoors_1
theorem dksX1_areDoors_0 : cX1_areDoors.data.toList.drop 0 = dktX1_areDoors_0 := by decide +kernel
theorem dksX1_areDoors_1 : cX1_areDoors.data.toList.drop 22 = dktX1_areDoors_1 := dk_seg dksX1_areDoors_0 22 rfl rfl
theorem dX1_areDoors_0 : decode cX1_areDoors 0 = .ok (.aload_n 0, 1) := dk_42 (dk_at dksX1_areDoors_0 0 rfl rfl)
theorem dX1_areDoors_1 : decode cX1_areDoors 1 = .ok (.iload_n 1, 1) := dk_27 (dk_at dksX1_areDoors_0 1 rfl rfl)
theorem dX1_areDoors_2 : decode cX1_areDoors 2 = .ok (.invokevirtual 181, 3) := dk_182 0 181 (dk_at dksX1_areDoors_0 2 rfl rfl)
theorem dX1_areDoors_5 : decode cX1_areDoors 5 = .ok (.ifCond .eq 20, 3) := dk_153 0 20 (dk_at dksX1_areDoors_0 5 rfl rfl)
theorem dX1_areDoors_8 : decode cX1_areDoors 8 = .ok (.aload_n 0, 1) := dk_42 (dk_at dksX1_areDoors_0 8 rfl rfl)
theorem dX1_areDoors_9 : decode cX1_areDoors 9 = .ok (.iload_n 2, 1) := dk_28 (dk_at dksX1_areDoors_0 9 rfl rfl)
theorem dX1_areDoors_10 : decode cX1_areDoors 10 = .ok (.invokevirtual 181, 3) := dk_182 0 181 (dk_at dksX1_areDoors_0 10 rfl rfl)
theorem dX1_areDoors_13 : decode cX1_areDoors 13 = .ok (.ifCond .eq 12, 3) := dk_153 0 12 (dk_at dksX1_areDoors_0 13 rfl rfl)
theorem dX1_areDoors_16 : decode cX1_areDoors 16 = .ok (.iload_n 1, 1) := dk_27 (dk_at dksX1_areDoors_0 16 rfl rfl)
theorem dX1_areDoors_17 : decode cX1_areDoors 17 = .ok (.iload_n 2, 1) := dk_28 (dk_at dksX1_areDoors_0 17 rfl rfl)
theorem dX1_areDoors_18 : decode cX1_areDoors 18 = .ok (.if_icmp .eq 7, 3) := dk_159 0 7 (dk_at dksX1_areDoors_0 18 rfl rfl)
theorem dX1_areDoors_21 : decode cX1_areDoors 21 = .ok (.iconst 1, 1) := dk_4 (dk_at dksX1_areDoors_0 21 rfl rfl)
theorem dX1_areDoors_22 : decode cX1_areDoors 22 = .ok (.goto 4, 3) := dk_167 0 4 (dk_at dksX1_areDoors_1 0 rfl rfl)
theorem dX1_areDoors_25 : decode cX1_areDoors 25 = .ok (.iconst 0, 1) := dk_3 (dk_at dksX1_areDoors_1 3 rfl rfl)
theorem dX1_areDoors_26 : decode cX1_areDoors 26 = .ok (.ireturn, 1) := dk_172 (dk_at dksX1_areDoors_1 4 rfl rfl)
abbrev cX1_isDoor : ByteArray := prog_1_method_15_code
def yX1_isDoor : MethodName := ⟨RX1, "isDoor", "(I)Z"⟩
def dkwX1_isDoor_0 : List UInt8 := [27, 3, 42, 180, 0, 39, 180, 0, 136, 4, 100, 184, 0, 112, 172]
abbrev dktX1_isDoor_0 : List UInt8 := dkwX1_isDoor_0 ++ []
theorem dksX1_isDoor_0 : cX1_isDoor.data.toList.drop 0 = dktX1_isDoor_0 := by decide +kernel
theorem dX1_isDoor_0 : decode cX1_isDoor 0 = .ok (.iload_n 1, 1) := dk_27 (dk_at dksX1_isDoor_0 0 rfl rfl)
theorem dX1_isDoor_1 : decode cX1_isDoor 1 = .ok (.iconst 0, 1) := dk_3 (dk_at dksX1_isDoor_0 1 rfl rfl)
theorem dX1_isDoor_2 : decode cX1_isDoor 2 = .ok (.aload_n 0, 1) := dk_42 (dk_at dksX1_isDoor_0 2 rfl rfl)
theorem dX1_isDoor_3 : decode cX1_isDoor 3 = .ok (.getfield 39, 3) := dk_180 0 39 (dk_at dksX1_isDoor_0 3 rfl rfl)
theorem dX1_isDoor_6 : decode cX1_isDoor 6 = .ok (.getfield 136, 3) := dk_180 0 136 (dk_at dksX1_isDoor_0 6 rfl rfl)
theorem dX1_isDoor_9 : decode cX1_isDoor 9 = .ok (.iconst 1, 1) := dk_4 (dk_at dksX1_isDoor_0 9 rfl rfl)
theorem dX1_isDoor_10 : decode cX1_isDoor 10 = .ok (.isub, 1) := dk_100 (dk_at dksX1_isDoor_0 10 rfl rfl)
theorem dX1_isDoor_11 : decode cX1_isDoor 11 = .ok (.invokestatic 112, 3) := dk_184 0 112 (dk_at dksX1_isDoor_0 11 rfl rfl)
theorem dX1_isDoor_14 : decode cX1_isDoor 14 = .ok (.ireturn, 1) := dk_172 (dk_at dksX1_isDoor_0 14 rfl rfl)
abbrev cX1_drop : ByteArray := prog_1_method_19_code
def yX1_drop : MethodName := ⟨RX1, "drop", "(I)Z"⟩
def dkwX1_drop_1 : List UInt8 := [4, 181, 0, 200, 4, 172]
abbrev dktX1_drop_1 : List UInt8 := dkwX1_drop_1 ++ []
def dkwX1_drop_0 : List UInt8 := [42, 27, 182, 0, 204, 154, 0, 5, 3, 172, 42, 180, 0, 39, 180, 0, 182, 27, 182, 0, 9, 192, 0, 191]
abbrev dktX1_drop_0 : List UInt8 := dkwX1_drop_0 ++ dktX1_drop_1
theorem dksX1_drop_0 : cX1_drop.data.toList.drop 0 = dktX1_drop_0 := by decide +kernel
theorem dksX1_drop_1 : cX1_drop.data.toList.drop 24 = dktX1_drop_1 := dk_seg dksX1_drop_0 24 rfl rfl
theorem dX1_drop_0 : decode cX1_drop 0 = .ok (.aload_n 0, 1) := dk_42 (dk_at dksX1_drop_0 0 rfl rfl)
theorem dX1_drop_1 : decode cX1_drop 1 = .ok (.iload_n 1, 1) := dk_27 (dk_at dksX1_drop_0 1 rfl rfl)
theorem dX1_drop_2 : decode cX1_drop 2 = .ok (.invokevirtual 204, 3) := dk_182 0 204 (dk_at dksX1_drop_0 2 rfl rfl)
theorem dX1_drop_5 : decode cX1_drop 5 = .ok (.ifCond .ne 5, 3) := dk_154 0 5 (dk_at dksX1_drop_0 5 rfl rfl)
theorem dX1_drop_8 : decode cX1_drop 8 = .ok (.iconst 0, 1) := dk_3 (dk_at dksX1_drop_0 8 rfl rfl)
theorem dX1_drop_9 : decode cX1_drop 9 = .ok (.ireturn, 1) := dk_172 (dk_at dksX1_drop_0 9 rfl rfl)
theorem dX1_drop_10 : decode cX1_drop 10 = .ok (.aload_n 0, 1) := dk_42 (dk_at dksX1_drop_0 10 rfl rfl)
theorem dX1_drop_11 : decode cX1_drop 11 = .ok (.getfield 39, 3) := dk_180 0 39 (dk_at dksX1_drop_0 11 rfl rfl)
theorem dX1_drop_14 : decode cX1_drop 14 = .ok (.getfield 182, 3) := dk_180 0 182 (dk_at dksX1_drop_0 14 rfl rfl)
theorem dX1_drop_17 : decode cX1_drop 17 = .ok (.iload_n 1, 1) := dk_27 (dk_at dksX1_drop_0 17 rfl rfl)
theorem dX1_drop_18 : decode cX1_drop 18 = .ok (.invokevirtual 9, 3) := dk_182 0 9 (dk_at dksX1_drop_0 18 rfl rfl)
theorem dX1_drop_21 : decode cX1_drop 21 = .ok (.checkcast 191, 3) := dk_192 0 191 (dk_at dksX1_drop_0 21 rfl rfl)
theorem dX1_drop_24 : decode cX1_drop 24 = .ok (.iconst 1, 1) := dk_4 (dk_at dksX1_drop_1 0 rfl rfl)
theorem dX1_drop_25 : decode cX1_drop 25 = .ok (.putfield 200, 3) := dk_181 0 200 (dk_at dksX1_drop_1 1 rfl rfl)
theorem dX1_drop_28 : decode cX1_drop 28 = .ok (.iconst 1, 1) := dk_4 (dk_at dksX1_drop_1 4 rfl rfl)
theorem dX1_drop_29 : decode cX1_drop 29 = .ok (.ireturn, 1) := dk_172 (dk_at dksX1_drop_1 5 rfl rfl)
abbrev cX1_isWish : ByteArray := prog_1_method_18_code
def yX1_isWish : MethodName := ⟨RX1, "isWish", "(I)Z"⟩
def dkwX1_isWish_1 : List UInt8 := [180, 0, 182, 27, 182, 0, 9, 192, 0, 191, 180, 0, 200, 154, 0, 7, 4, 167, 0, 4, 3, 172]
abbrev dktX1_isWish_1 : List UInt8 := dkwX1_isWish_1 ++ []
def dkwX1_isWish_0 : List UInt8 := [27, 3, 42, 180, 0, 39, 180, 0, 182, 182, 0, 3, 4, 100, 184, 0, 112, 153, 0, 27, 42, 180, 0, 39]
abbrev dktX1_isWish_0 : List UInt8 := dkwX1_isWish_0 ++ dktX1_isWish_1
theorem dksX1_isWish_0 : cX1_isWish.data.toList.drop 0 = dktX1_isWish_0 := by decide +kernel
theorem dksX1_isWish_1 : cX1_isWish.data.toList.drop 24 = dktX1_isWish_1 := dk_seg dksX1_isWish_0 24 rfl rfl
theorem dX1_isWish_0 : decode cX1_isWish 0 = .ok (.iload_n 1, 1) := dk_27 (dk_at dksX1_isWish_0 0 rfl rfl)
theorem dX1_isWish_1 : decode cX1_isWish 1 = .ok (.iconst 0, 1) := dk_3 (dk_at dksX1_isWish_0 1 rfl rfl)
theorem dX1_isWish_2 : decode cX1_isWish 2 = .ok (.aload_n 0, 1) := dk_42 (dk_at dksX1_isWish_0 2 rfl rfl)
theorem dX1_isWish_3 : decode cX1_isWish 3 = .ok (.getfield 39, 3) := dk_180 0 39 (dk_at dksX1_isWish_0 3 rfl rfl)
theorem dX1_isWish_6 : decode cX1_isWish 6 = .ok (.getfield 182, 3) := dk_180 0 182 (dk_at dksX1_isWish_0 6 rfl rfl)
theorem dX1_isWish_9 : decode cX1_isWish 9 = .ok (.invokevirtual 3, 3) := dk_182 0 3 (dk_at dksX1_isWish_0 9 rfl rfl)
theorem dX1_isWish_12 : decode cX1_isWish 12 = .ok (.iconst 1, 1) := dk_4 (dk_at dksX1_isWish_0 12 rfl rfl)
theorem dX1_isWish_13 : decode cX1_isWish 13 = .ok (.isub, 1) := dk_100 (dk_at dksX1_isWish_0 13 rfl rfl)
theorem dX1_isWish_14 : decode cX1_isWish 14 = .ok (.invokestatic 112, 3) := dk_184 0 112 (dk_at dksX1_isWish_0 14 rfl rfl)
theorem dX1_isWish_17 : decode cX1_isWish 17 = .ok (.ifCond .eq 27, 3) := dk_153 0 27 (dk_at dksX1_isWish_0 17 rfl rfl)
theorem dX1_isWish_20 : decode cX1_isWish 20 = .ok (.aload_n 0, 1) := dk_42 (dk_at dksX1_isWish_0 20 rfl rfl)
theorem dX1_isWish_21 : decode cX1_isWish 21 = .ok (.getfield 39, 3) := dk_180 0 39 (dk_at dksX1_isWish_0 21 rfl rfl)
theorem dX1_isWish_24 : decode cX1_isWish 24 = .ok (.getfield 182, 3) := dk_180 0 182 (dk_at dksX1_isWish_1 0 rfl rfl)
theorem dX1_isWish_27 : decode cX1_isWish 27 = .ok (.iload_n 1, 1) := dk_27 (dk_at dksX1_isWish_1 3 rfl rfl)
theorem dX1_isWish_28 : decode cX1_isWish 28 = .ok (.invokevirtual 9, 3) := dk_182 0 9 (dk_at dksX1_isWish_1 4 rfl rfl)
theorem dX1_isWish_31 : decode cX1_isWish 31 = .ok (.checkcast 191, 3) := dk_192 0 191 (dk_at dksX1_isWish_1 7 rfl rfl)
theorem dX1_isWish_34 : decode cX1_isWish 34 = .ok (.getfield 200, 3) := dk_180 0 200 (dk_at dksX1_isWish_1 10 rfl rfl)
theorem dX1_isWish_37 : decode cX1_isWish 37 = .ok (.ifCond .ne 7, 3) := dk_154 0 7 (dk_at dksX1_isWish_1 13 rfl rfl)
theorem dX1_isWish_40 : decode cX1_isWish 40 = .ok (.iconst 1, 1) := dk_4 (dk_at dksX1_isWish_1 16 rfl rfl)
theorem dX1_isWish_41 : decode cX1_isWish 41 = .ok (.goto 4, 3) := dk_167 0 4 (dk_at dksX1_isWish_1 17 rfl rfl)
theorem dX1_isWish_44 : decode cX1_isWish 44 = .ok (.iconst 0, 1) := dk_3 (dk_at dksX1_isWish_1 20 rfl rfl)
theorem dX1_isWish_45 : decode cX1_isWish 45 = .ok (.ireturn, 1) := dk_172 (dk_at dksX1_isWish_1 21 rfl rfl)
abbrev cX1_run : ByteArray := prog_1_method_20_code
def yX1_run : MethodName := ⟨RX1, "run", "(I)I"⟩
def dkwX1_run_2 : List UInt8 := [180, 0, 55, 182, 0, 213, 42, 180, 0, 39, 180, 0, 210, 28, 100, 172]
abbrev dktX1_run_2 : List UInt8 := dkwX1_run_2 ++ []
def dkwX1_run_1 : List UInt8 := [164, 0, 5, 2, 172, 42, 180, 0, 39, 180, 0, 210, 61, 42, 180, 0, 39, 27, 42, 180, 0, 49, 42]
abbrev dktX1_run_1 : List UInt8 := dkwX1_run_1 ++ dktX1_run_2
def dkwX1_run_0 : List UInt8 := [27, 4, 17, 1, 144, 184, 0, 112, 153, 0, 17, 42, 180, 0, 39, 180, 0, 207, 27, 96, 18, 190]
abbrev dktX1_run_0 : List UInt8 := dkwX1_run_0 ++ dktX1_run_1
theorem dksX1_run_0 : cX1_run.data.toList.drop 0 = dktX1_run_0 := by decide +kernel
theorem dksX1_run_1 : cX1_run.data.toList.drop 22 = dktX1_run_1 := dk_seg dksX1_run_0 22 rfl rfl
theorem dksX1_run_2 : cX1_run.data.toList.drop 45 = dktX1_run_2 := dk_seg dksX1_run_1 23 rfl rfl
theorem dX1_run_0 : decode cX1_run 0 = .ok (.iload_n 1, 1) := dk_27 (dk_at dksX1_run_0 0 rfl rfl)
theorem dX1_run_1 : decode cX1_run 1 = .ok (.iconst 1, 1) := dk_4 (dk_at dksX1_run_0 1 rfl rfl)
theorem dX1_run_2 : decode cX1_run 2 = .ok (.sipush 400, 3) := dk_17 1 144 (dk_at dksX1_run_0 2 rfl rfl)
theorem dX1_run_5 : decode cX1_run 5 = .ok (.invokestatic 112, 3) := dk_184 0 112 (dk_at dksX1_run_0 5 rfl rfl)
theorem dX1_run_8 : decode cX1_run 8 = .ok (.ifCond .eq 17, 3) := dk_153 0 17 (dk_at dksX1_run_0 8 rfl rfl)
theorem dX1_run_11 : decode cX1_run 11 = .ok (.aload_n 0, 1) := dk_42 (dk_at dksX1_run_0 11 rfl rfl)
theorem dX1_run_12 : decode cX1_run 12 = .ok (.getfield 39, 3) := dk_180 0 39 (dk_at dksX1_run_0 12 rfl rfl)
theorem dX1_run_15 : decode cX1_run 15 = .ok (.getfield 207, 3) := dk_180 0 207 (dk_at dksX1_run_0 15 rfl rfl)
theorem dX1_run_18 : decode cX1_run 18 = .ok (.iload_n 1, 1) := dk_27 (dk_at dksX1_run_0 18 rfl rfl)
theorem dX1_run_19 : decode cX1_run 19 = .ok (.iadd, 1) := dk_96 (dk_at dksX1_run_0 19 rfl rfl)
theorem dX1_run_20 : decode cX1_run 20 = .ok (.ldc 190, 2) := dk_18 190 (dk_at dksX1_run_0 20 rfl rfl)
theorem dX1_run_22 : decode cX1_run 22 = .ok (.if_icmp .le 5, 3) := dk_164 0 5 (dk_at dksX1_run_1 0 rfl rfl)
theorem dX1_run_25 : decode cX1_run 25 = .ok (.iconst (-1), 1) := dk_2 (dk_at dksX1_run_1 3 rfl rfl)
theorem dX1_run_26 : decode cX1_run 26 = .ok (.ireturn, 1) := dk_172 (dk_at dksX1_run_1 4 rfl rfl)
theorem dX1_run_27 : decode cX1_run 27 = .ok (.aload_n 0, 1) := dk_42 (dk_at dksX1_run_1 5 rfl rfl)
theorem dX1_run_28 : decode cX1_run 28 = .ok (.getfield 39, 3) := dk_180 0 39 (dk_at dksX1_run_1 6 rfl rfl)
theorem dX1_run_31 : decode cX1_run 31 = .ok (.getfield 210, 3) := dk_180 0 210 (dk_at dksX1_run_1 9 rfl rfl)
theorem dX1_run_34 : decode cX1_run 34 = .ok (.istore_n 2, 1) := dk_61 (dk_at dksX1_run_1 12 rfl rfl)
theorem dX1_run_35 : decode cX1_run 35 = .ok (.aload_n 0, 1) := dk_42 (dk_at dksX1_run_1 13 rfl rfl)
theorem dX1_run_36 : decode cX1_run 36 = .ok (.getfield 39, 3) := dk_180 0 39 (dk_at dksX1_run_1 14 rfl rfl)
theorem dX1_run_39 : decode cX1_run 39 = .ok (.iload_n 1, 1) := dk_27 (dk_at dksX1_run_1 17 rfl rfl)
theorem dX1_run_40 : decode cX1_run 40 = .ok (.aload_n 0, 1) := dk_42 (dk_at dksX1_run_1 18 rfl rfl)
theorem dX1_run_41 : decode cX1_run 41 = .ok (.getfield 49, 3) := dk_180 0 49 (dk_at dksX1_run_1 19 rfl rfl)
theorem dX1_run_44 : decode cX1_run 44 = .ok (.aload_n 0, 1) := dk_42 (dk_at dksX1_run_1 22 rfl rfl)
theorem dX1_run_45 : decode cX1_run 45 = .ok (.getfield 55, 3) := dk_180 0 55 (dk_at dksX1_run_2 0 rfl rfl)
theorem dX1_run_48 : decode cX1_run 48 = .ok (.invokevirtual 213, 3) := dk_182 0 213 (dk_at dksX1_run_2 3 rfl rfl)
theorem dX1_run_51 : decode cX1_run 51 = .ok (.aload_n 0, 1) := dk_42 (dk_at dksX1_run_2 6 rfl rfl)
theorem dX1_run_52 : decode cX1_run 52 = .ok (.getfield 39, 3) := dk_180 0 39 (dk_at dksX1_run_2 7 rfl rfl)
theorem dX1_run_55 : decode cX1_run 55 = .ok (.getfield 210, 3) := dk_180 0 210 (dk_at dksX1_run_2 10 rfl rfl)
theorem dX1_run_58 : decode cX1_run 58 = .ok (.iload_n 2, 1) := dk_28 (dk_at dksX1_run_2 13 rfl rfl)
theorem dX1_run_59 : decode cX1_run 59 = .ok (.isub, 1) := dk_100 (dk_at dksX1_run_2 14 rfl rfl)
theorem dX1_run_60 : decode cX1_run 60 = .ok (.ireturn, 1) := dk_172 (dk_at dksX1_run_2 15 rfl rfl)
abbrev cX1_firstOf : ByteArray := prog_1_method_2_code
def yX1_firstOf : MethodName := ⟨RX1, "firstOf", "(Ljava/util/ArrayList;IILGrassPark$Ground;LGrassPark$Law;I)I"⟩
def dkwX1_firstOf_2 : List UInt8 := [42, 21, 6, 182, 0, 9, 192, 0, 13, 180, 0, 23, 172, 132, 6, 1, 167, 255, 195, 28, 172]
abbrev dktX1_firstOf_2 : List UInt8 := dkwX1_firstOf_2 ++ []
def dkwX1_firstOf_1 : List UInt8 := [27, 160, 0, 36, 42, 21, 6, 182, 0, 9, 192, 0, 13, 45, 25, 4, 21, 5, 182, 0, 19, 153, 0, 16]
abbrev dktX1_firstOf_1 : List UInt8 := dkwX1_firstOf_1 ++ dktX1_firstOf_2
def dkwX1_firstOf_0 : List UInt8 := [3, 54, 6, 21, 6, 42, 182, 0, 3, 162, 0, 58, 42, 21, 6, 182, 0, 9, 192, 0, 13, 180, 0, 15]
abbrev dktX1_firstOf_0 : List UInt8 := dkwX1_firstOf_0 ++ dktX1_firstOf_1
theorem dksX1_firstOf_0 : cX1_firstOf.data.toList.drop 0 = dktX1_firstOf_0 := by decide +kernel
theorem dksX1_firstOf_1 : cX1_firstOf.data.toList.drop 24 = dktX1_firstOf_1 := dk_seg dksX1_firstOf_0 24 rfl rfl
theorem dksX1_firstOf_2 : cX1_firstOf.data.toList.drop 48 = dktX1_firstOf_2 := dk_seg dksX1_firstOf_1 24 rfl rfl
theorem dX1_firstOf_0 : decode cX1_firstOf 0 = .ok (.iconst 0, 1) := dk_3 (dk_at dksX1_firstOf_0 0 rfl rfl)
theorem dX1_firstOf_1 : decode cX1_firstOf 1 = .ok (.istore 6, 2) := dk_54 6 (dk_at dksX1_firstOf_0 1 rfl rfl)
theorem dX1_firstOf_3 : decode cX1_firstOf 3 = .ok (.iload 6, 2) := dk_21 6 (dk_at dksX1_firstOf_0 3 rfl rfl)
theorem dX1_firstOf_5 : decode cX1_firstOf 5 = .ok (.aload_n 0, 1) := dk_42 (dk_at dksX1_firstOf_0 5 rfl rfl)
theorem dX1_firstOf_6 : decode cX1_firstOf 6 = .ok (.invokevirtual 3, 3) := dk_182 0 3 (dk_at dksX1_firstOf_0 6 rfl rfl)
theorem dX1_firstOf_9 : decode cX1_firstOf 9 = .ok (.if_icmp .ge 58, 3) := dk_162 0 58 (dk_at dksX1_firstOf_0 9 rfl rfl)
theorem dX1_firstOf_12 : decode cX1_firstOf 12 = .ok (.aload_n 0, 1) := dk_42 (dk_at dksX1_firstOf_0 12 rfl rfl)
theorem dX1_firstOf_13 : decode cX1_firstOf 13 = .ok (.iload 6, 2) := dk_21 6 (dk_at dksX1_firstOf_0 13 rfl rfl)
theorem dX1_firstOf_15 : decode cX1_firstOf 15 = .ok (.invokevirtual 9, 3) := dk_182 0 9 (dk_at dksX1_firstOf_0 15 rfl rfl)
theorem dX1_firstOf_18 : decode cX1_firstOf 18 = .ok (.checkcast 13, 3) := dk_192 0 13 (dk_at dksX1_firstOf_0 18 rfl rfl)
theorem dX1_firstOf_21 : decode cX1_firstOf 21 = .ok (.getfield 15, 3) := dk_180 0 15 (dk_at dksX1_firstOf_0 21 rfl rfl)
theorem dX1_firstOf_24 : decode cX1_firstOf 24 = .ok (.iload_n 1, 1) := dk_27 (dk_at dksX1_firstOf_1 0 rfl rfl)
theorem dX1_firstOf_25 : decode cX1_firstOf 25 = .ok (.if_icmp .ne 36, 3) := dk_160 0 36 (dk_at dksX1_firstOf_1 1 rfl rfl)
theorem dX1_firstOf_28 : decode cX1_firstOf 28 = .ok (.aload_n 0, 1) := dk_42 (dk_at dksX1_firstOf_1 4 rfl rfl)
theorem dX1_firstOf_29 : decode cX1_firstOf 29 = .ok (.iload 6, 2) := dk_21 6 (dk_at dksX1_firstOf_1 5 rfl rfl)
theorem dX1_firstOf_31 : decode cX1_firstOf 31 = .ok (.invokevirtual 9, 3) := dk_182 0 9 (dk_at dksX1_firstOf_1 7 rfl rfl)
theorem dX1_firstOf_34 : decode cX1_firstOf 34 = .ok (.checkcast 13, 3) := dk_192 0 13 (dk_at dksX1_firstOf_1 10 rfl rfl)
theorem dX1_firstOf_37 : decode cX1_firstOf 37 = .ok (.aload_n 3, 1) := dk_45 (dk_at dksX1_firstOf_1 13 rfl rfl)
theorem dX1_firstOf_38 : decode cX1_firstOf 38 = .ok (.aload 4, 2) := dk_25 4 (dk_at dksX1_firstOf_1 14 rfl rfl)
theorem dX1_firstOf_40 : decode cX1_firstOf 40 = .ok (.iload 5, 2) := dk_21 5 (dk_at dksX1_firstOf_1 16 rfl rfl)
theorem dX1_firstOf_42 : decode cX1_firstOf 42 = .ok (.invokevirtual 19, 3) := dk_182 0 19 (dk_at dksX1_firstOf_1 18 rfl rfl)
theorem dX1_firstOf_45 : decode cX1_firstOf 45 = .ok (.ifCond .eq 16, 3) := dk_153 0 16 (dk_at dksX1_firstOf_1 21 rfl rfl)
theorem dX1_firstOf_48 : decode cX1_firstOf 48 = .ok (.aload_n 0, 1) := dk_42 (dk_at dksX1_firstOf_2 0 rfl rfl)
theorem dX1_firstOf_49 : decode cX1_firstOf 49 = .ok (.iload 6, 2) := dk_21 6 (dk_at dksX1_firstOf_2 1 rfl rfl)
theorem dX1_firstOf_51 : decode cX1_firstOf 51 = .ok (.invokevirtual 9, 3) := dk_182 0 9 (dk_at dksX1_firstOf_2 3 rfl rfl)
theorem dX1_firstOf_54 : decode cX1_firstOf 54 = .ok (.checkcast 13, 3) := dk_192 0 13 (dk_at dksX1_firstOf_2 6 rfl rfl)
theorem dX1_firstOf_57 : decode cX1_firstOf 57 = .ok (.getfield 23, 3) := dk_180 0 23 (dk_at dksX1_firstOf_2 9 rfl rfl)
theorem dX1_firstOf_60 : decode cX1_firstOf 60 = .ok (.ireturn, 1) := dk_172 (dk_at dksX1_firstOf_2 12 rfl rfl)
theorem dX1_firstOf_61 : decode cX1_firstOf 61 = .ok (.iinc 6 1, 3) := dk_132 6 1 (dk_at dksX1_firstOf_2 13 rfl rfl)
theorem dX1_firstOf_64 : decode cX1_firstOf 64 = .ok (.goto (-61), 3) := dk_167 255 195 (dk_at dksX1_firstOf_2 16 rfl rfl)
theorem dX1_firstOf_67 : decode cX1_firstOf 67 = .ok (.iload_n 2, 1) := dk_28 (dk_at dksX1_firstOf_2 19 rfl rfl)
theorem dX1_firstOf_68 : decode cX1_firstOf 68 = .ok (.ireturn, 1) := dk_172 (dk_at dksX1_firstOf_2 20 rfl rfl)
abbrev cX1_week : ByteArray := prog_1_method_21_code
def yX1_week : MethodName := ⟨RX1, "week", "()I"⟩
def dkwX1_week_0 : List UInt8 := [42, 180, 0, 39, 42, 180, 0, 49, 182, 0, 217, 42, 180, 0, 39, 42, 180, 0, 49, 182, 0, 221, 172]
abbrev dktX1_week_0 : List UInt8 := dkwX1_week_0 ++ []
theorem dksX1_week_0 : cX1_week.data.toList.drop 0 = dktX1_week_0 := by decide +kernel
theorem dX1_week_0 : decode cX1_week 0 = .ok (.aload_n 0, 1) := dk_42 (dk_at dksX1_week_0 0 rfl rfl)
theorem dX1_week_1 : decode cX1_week 1 = .ok (.getfield 39, 3) := dk_180 0 39 (dk_at dksX1_week_0 1 rfl rfl)
theorem dX1_week_4 : decode cX1_week 4 = .ok (.aload_n 0, 1) := dk_42 (dk_at dksX1_week_0 4 rfl rfl)
theorem dX1_week_5 : decode cX1_week 5 = .ok (.getfield 49, 3) := dk_180 0 49 (dk_at dksX1_week_0 5 rfl rfl)
theorem dX1_week_8 : decode cX1_week 8 = .ok (.invokevirtual 217, 3) := dk_182 0 217 (dk_at dksX1_week_0 8 rfl rfl)
theorem dX1_week_11 : decode cX1_week 11 = .ok (.aload_n 0, 1) := dk_42 (dk_at dksX1_week_0 11 rfl rfl)
theorem dX1_week_12 : decode cX1_week 12 = .ok (.getfield 39, 3) := dk_180 0 39 (dk_at dksX1_week_0 12 rfl rfl)
theorem dX1_week_15 : decode cX1_week 15 = .ok (.aload_n 0, 1) := dk_42 (dk_at dksX1_week_0 15 rfl rfl)
theorem dX1_week_16 : decode cX1_week 16 = .ok (.getfield 49, 3) := dk_180 0 49 (dk_at dksX1_week_0 16 rfl rfl)
theorem dX1_week_19 : decode cX1_week 19 = .ok (.invokevirtual 221, 3) := dk_182 0 221 (dk_at dksX1_week_0 19 rfl rfl)
theorem dX1_week_22 : decode cX1_week 22 = .ok (.ireturn, 1) := dk_172 (dk_at dksX1_week_0 22 rfl rfl)
abbrev cX1_rain : ByteArray := prog_1_method_22_code
def yX1_rain : MethodName := ⟨RX1, "rain", "(I)Z"⟩
def dkwX1_rain_3 : List UInt8 := [167, 255, 207, 4, 172]
abbrev dktX1_rain_3 : List UInt8 := dkwX1_rain_3 ++ []
def dkwX1_rain_2 : List UInt8 := [44, 180, 0, 231, 29, 17, 0, 200, 44, 180, 0, 231, 29, 46, 27, 96, 184, 0, 234, 79, 132, 3, 1]
abbrev dktX1_rain_2 : List UInt8 := dkwX1_rain_2 ++ dktX1_rain_3
def dkwX1_rain_1 : List UInt8 := [182, 0, 225, 162, 0, 47, 44, 29, 182, 0, 228, 154, 0, 13, 44, 180, 0, 126, 29, 46, 4, 160, 0, 23]
abbrev dktX1_rain_1 : List UInt8 := dkwX1_rain_1 ++ dktX1_rain_2
def dkwX1_rain_0 : List UInt8 := [27, 4, 17, 0, 200, 184, 0, 112, 154, 0, 5, 3, 172, 42, 180, 0, 39, 77, 3, 62, 29, 44]
abbrev dktX1_rain_0 : List UInt8 := dkwX1_rain_0 ++ dktX1_rain_1
theorem dksX1_rain_0 : cX1_rain.data.toList.drop 0 = dktX1_rain_0 := by decide +kernel
theorem dksX1_rain_1 : cX1_rain.data.toList.drop 22 = dktX1_rain_1 := dk_seg dksX1_rain_0 22 rfl rfl
theorem dksX1_rain_2 : cX1_rain.data.toList.drop 46 = dktX1_rain_2 := dk_seg dksX1_rain_1 24 rfl rfl
theorem dksX1_rain_3 : cX1_rain.data.toList.drop 69 = dktX1_rain_3 := dk_seg dksX1_rain_2 23 rfl rfl
theorem dX1_rain_0 : decode cX1_rain 0 = .ok (.iload_n 1, 1) := dk_27 (dk_at dksX1_rain_0 0 rfl rfl)
theorem dX1_rain_1 : decode cX1_rain 1 = .ok (.iconst 1, 1) := dk_4 (dk_at dksX1_rain_0 1 rfl rfl)
theorem dX1_rain_2 : decode cX1_rain 2 = .ok (.sipush 200, 3) := dk_17 0 200 (dk_at dksX1_rain_0 2 rfl rfl)
theorem dX1_rain_5 : decode cX1_rain 5 = .ok (.invokestatic 112, 3) := dk_184 0 112 (dk_at dksX1_rain_0 5 rfl rfl)
theorem dX1_rain_8 : decode cX1_rain 8 = .ok (.ifCond .ne 5, 3) := dk_154 0 5 (dk_at dksX1_rain_0 8 rfl rfl)
theorem dX1_rain_11 : decode cX1_rain 11 = .ok (.iconst 0, 1) := dk_3 (dk_at dksX1_rain_0 11 rfl rfl)
theorem dX1_rain_12 : decode cX1_rain 12 = .ok (.ireturn, 1) := dk_172 (dk_at dksX1_rain_0 12 rfl rfl)
theorem dX1_rain_13 : decode cX1_rain 13 = .ok (.aload_n 0, 1) := dk_42 (dk_at dksX1_rain_0 13 rfl rfl)
theorem dX1_rain_14 : decode cX1_rain 14 = .ok (.getfield 39, 3) := dk_180 0 39 (dk_at dksX1_rain_0 14 rfl rfl)
theorem dX1_rain_17 : decode cX1_rain 17 = .ok (.astore_n 2, 1) := dk_77 (dk_at dksX1_rain_0 17 rfl rfl)
theorem dX1_rain_18 : decode cX1_rain 18 = .ok (.iconst 0, 1) := dk_3 (dk_at dksX1_rain_0 18 rfl rfl)
theorem dX1_rain_19 : decode cX1_rain 19 = .ok (.istore_n 3, 1) := dk_62 (dk_at dksX1_rain_0 19 rfl rfl)
theorem dX1_rain_20 : decode cX1_rain 20 = .ok (.iload_n 3, 1) := dk_29 (dk_at dksX1_rain_0 20 rfl rfl)
theorem dX1_rain_21 : decode cX1_rain 21 = .ok (.aload_n 2, 1) := dk_44 (dk_at dksX1_rain_0 21 rfl rfl)
theorem dX1_rain_22 : decode cX1_rain 22 = .ok (.invokevirtual 225, 3) := dk_182 0 225 (dk_at dksX1_rain_1 0 rfl rfl)
theorem dX1_rain_25 : decode cX1_rain 25 = .ok (.if_icmp .ge 47, 3) := dk_162 0 47 (dk_at dksX1_rain_1 3 rfl rfl)
theorem dX1_rain_28 : decode cX1_rain 28 = .ok (.aload_n 2, 1) := dk_44 (dk_at dksX1_rain_1 6 rfl rfl)
theorem dX1_rain_29 : decode cX1_rain 29 = .ok (.iload_n 3, 1) := dk_29 (dk_at dksX1_rain_1 7 rfl rfl)
theorem dX1_rain_30 : decode cX1_rain 30 = .ok (.invokevirtual 228, 3) := dk_182 0 228 (dk_at dksX1_rain_1 8 rfl rfl)
theorem dX1_rain_33 : decode cX1_rain 33 = .ok (.ifCond .ne 13, 3) := dk_154 0 13 (dk_at dksX1_rain_1 11 rfl rfl)
theorem dX1_rain_36 : decode cX1_rain 36 = .ok (.aload_n 2, 1) := dk_44 (dk_at dksX1_rain_1 14 rfl rfl)
theorem dX1_rain_37 : decode cX1_rain 37 = .ok (.getfield 126, 3) := dk_180 0 126 (dk_at dksX1_rain_1 15 rfl rfl)
theorem dX1_rain_40 : decode cX1_rain 40 = .ok (.iload_n 3, 1) := dk_29 (dk_at dksX1_rain_1 18 rfl rfl)
theorem dX1_rain_41 : decode cX1_rain 41 = .ok (.iaload, 1) := dk_46 (dk_at dksX1_rain_1 19 rfl rfl)
theorem dX1_rain_42 : decode cX1_rain 42 = .ok (.iconst 1, 1) := dk_4 (dk_at dksX1_rain_1 20 rfl rfl)
theorem dX1_rain_43 : decode cX1_rain 43 = .ok (.if_icmp .ne 23, 3) := dk_160 0 23 (dk_at dksX1_rain_1 21 rfl rfl)
theorem dX1_rain_46 : decode cX1_rain 46 = .ok (.aload_n 2, 1) := dk_44 (dk_at dksX1_rain_2 0 rfl rfl)
theorem dX1_rain_47 : decode cX1_rain 47 = .ok (.getfield 231, 3) := dk_180 0 231 (dk_at dksX1_rain_2 1 rfl rfl)
theorem dX1_rain_50 : decode cX1_rain 50 = .ok (.iload_n 3, 1) := dk_29 (dk_at dksX1_rain_2 4 rfl rfl)
theorem dX1_rain_51 : decode cX1_rain 51 = .ok (.sipush 200, 3) := dk_17 0 200 (dk_at dksX1_rain_2 5 rfl rfl)
theorem dX1_rain_54 : decode cX1_rain 54 = .ok (.aload_n 2, 1) := dk_44 (dk_at dksX1_rain_2 8 rfl rfl)
theorem dX1_rain_55 : decode cX1_rain 55 = .ok (.getfield 231, 3) := dk_180 0 231 (dk_at dksX1_rain_2 9 rfl rfl)
theorem dX1_rain_58 : decode cX1_rain 58 = .ok (.iload_n 3, 1) := dk_29 (dk_at dksX1_rain_2 12 rfl rfl)
theorem dX1_rain_59 : decode cX1_rain 59 = .ok (.iaload, 1) := dk_46 (dk_at dksX1_rain_2 13 rfl rfl)
theorem dX1_rain_60 : decode cX1_rain 60 = .ok (.iload_n 1, 1) := dk_27 (dk_at dksX1_rain_2 14 rfl rfl)
theorem dX1_rain_61 : decode cX1_rain 61 = .ok (.iadd, 1) := dk_96 (dk_at dksX1_rain_2 15 rfl rfl)
theorem dX1_rain_62 : decode cX1_rain 62 = .ok (.invokestatic 234, 3) := dk_184 0 234 (dk_at dksX1_rain_2 16 rfl rfl)
theorem dX1_rain_65 : decode cX1_rain 65 = .ok (.iastore, 1) := dk_79 (dk_at dksX1_rain_2 19 rfl rfl)
theorem dX1_rain_66 : decode cX1_rain 66 = .ok (.iinc 3 1, 3) := dk_132 3 1 (dk_at dksX1_rain_2 20 rfl rfl)
theorem dX1_rain_69 : decode cX1_rain 69 = .ok (.goto (-49), 3) := dk_167 255 207 (dk_at dksX1_rain_3 0 rfl rfl)
theorem dX1_rain_72 : decode cX1_rain 72 = .ok (.iconst 1, 1) := dk_4 (dk_at dksX1_rain_3 3 rfl rfl)
theorem dX1_rain_73 : decode cX1_rain 73 = .ok (.ireturn, 1) := dk_172 (dk_at dksX1_rain_3 4 rfl rfl)
abbrev cX1_snow : ByteArray := prog_1_method_23_code
def yX1_snow : MethodName := ⟨RX1, "snow", "()V"⟩
def dkwX1_snow_0 : List UInt8 := [42, 180, 0, 39, 180, 0, 240, 3, 184, 0, 243, 177]
abbrev dktX1_snow_0 : List UInt8 := dkwX1_snow_0 ++ []
theorem dksX1_snow_0 : cX1_snow.data.toList.drop 0 = dktX1_snow_0 := by decide +kernel
theorem dX1_snow_0 : decode cX1_snow 0 = .ok (.aload_n 0, 1) := dk_42 (dk_at dksX1_snow_0 0 rfl rfl)
theorem dX1_snow_1 : decode cX1_snow 1 = .ok (.getfield 39, 3) := dk_180 0 39 (dk_at dksX1_snow_0 1 rfl rfl)
theorem dX1_snow_4 : decode cX1_snow 4 = .ok (.getfield 240, 3) := dk_180 0 240 (dk_at dksX1_snow_0 4 rfl rfl)
theorem dX1_snow_7 : decode cX1_snow 7 = .ok (.iconst 0, 1) := dk_3 (dk_at dksX1_snow_0 7 rfl rfl)
theorem dX1_snow_8 : decode cX1_snow 8 = .ok (.invokestatic 243, 3) := dk_184 0 243 (dk_at dksX1_snow_0 8 rfl rfl)
theorem dX1_snow_11 : decode cX1_snow 11 = .ok (.return_, 1) := dk_177 (dk_at dksX1_snow_0 11 rfl rfl)
abbrev cX1_lay : ByteArray := prog_1_method_24_code
def yX1_lay : MethodName := ⟨RX1, "lay", "(II)Z"⟩
def dkwX1_lay_2 : List UInt8 := [182, 0, 249, 153, 0, 5, 3, 172, 45, 27, 28, 182, 0, 252, 4, 172]
abbrev dktX1_lay_2 : List UInt8 := dkwX1_lay_2 ++ []
def dkwX1_lay_1 : List UInt8 := [172, 28, 6, 159, 0, 9, 28, 16, 6, 160, 0, 21, 45, 27, 182, 0, 146, 154, 0, 11, 45, 27]
abbrev dktX1_lay_1 : List UInt8 := dkwX1_lay_1 ++ dktX1_lay_2
def dkwX1_lay_0 : List UInt8 := [42, 180, 0, 39, 78, 45, 27, 182, 0, 139, 153, 0, 13, 28, 3, 16, 6, 184, 0, 112, 154, 0, 5, 3]
abbrev dktX1_lay_0 : List UInt8 := dkwX1_lay_0 ++ dktX1_lay_1
theorem dksX1_lay_0 : cX1_lay.data.toList.drop 0 = dktX1_lay_0 := by decide +kernel
theorem dksX1_lay_1 : cX1_lay.data.toList.drop 24 = dktX1_lay_1 := dk_seg dksX1_lay_0 24 rfl rfl
theorem dksX1_lay_2 : cX1_lay.data.toList.drop 46 = dktX1_lay_2 := dk_seg dksX1_lay_1 22 rfl rfl
theorem dX1_lay_0 : decode cX1_lay 0 = .ok (.aload_n 0, 1) := dk_42 (dk_at dksX1_lay_0 0 rfl rfl)
theorem dX1_lay_1 : decode cX1_lay 1 = .ok (.getfield 39, 3) := dk_180 0 39 (dk_at dksX1_lay_0 1 rfl rfl)
theorem dX1_lay_4 : decode cX1_lay 4 = .ok (.astore_n 3, 1) := dk_78 (dk_at dksX1_lay_0 4 rfl rfl)
theorem dX1_lay_5 : decode cX1_lay 5 = .ok (.aload_n 3, 1) := dk_45 (dk_at dksX1_lay_0 5 rfl rfl)
theorem dX1_lay_6 : decode cX1_lay 6 = .ok (.iload_n 1, 1) := dk_27 (dk_at dksX1_lay_0 6 rfl rfl)
theorem dX1_lay_7 : decode cX1_lay 7 = .ok (.invokevirtual 139, 3) := dk_182 0 139 (dk_at dksX1_lay_0 7 rfl rfl)
theorem dX1_lay_10 : decode cX1_lay 10 = .ok (.ifCond .eq 13, 3) := dk_153 0 13 (dk_at dksX1_lay_0 10 rfl rfl)
theorem dX1_lay_13 : decode cX1_lay 13 = .ok (.iload_n 2, 1) := dk_28 (dk_at dksX1_lay_0 13 rfl rfl)
theorem dX1_lay_14 : decode cX1_lay 14 = .ok (.iconst 0, 1) := dk_3 (dk_at dksX1_lay_0 14 rfl rfl)
theorem dX1_lay_15 : decode cX1_lay 15 = .ok (.bipush 6, 2) := dk_16 6 (dk_at dksX1_lay_0 15 rfl rfl)
theorem dX1_lay_17 : decode cX1_lay 17 = .ok (.invokestatic 112, 3) := dk_184 0 112 (dk_at dksX1_lay_0 17 rfl rfl)
theorem dX1_lay_20 : decode cX1_lay 20 = .ok (.ifCond .ne 5, 3) := dk_154 0 5 (dk_at dksX1_lay_0 20 rfl rfl)
theorem dX1_lay_23 : decode cX1_lay 23 = .ok (.iconst 0, 1) := dk_3 (dk_at dksX1_lay_0 23 rfl rfl)
theorem dX1_lay_24 : decode cX1_lay 24 = .ok (.ireturn, 1) := dk_172 (dk_at dksX1_lay_1 0 rfl rfl)
theorem dX1_lay_25 : decode cX1_lay 25 = .ok (.iload_n 2, 1) := dk_28 (dk_at dksX1_lay_1 1 rfl rfl)
theorem dX1_lay_26 : decode cX1_lay 26 = .ok (.iconst 3, 1) := dk_6 (dk_at dksX1_lay_1 2 rfl rfl)
theorem dX1_lay_27 : decode cX1_lay 27 = .ok (.if_icmp .eq 9, 3) := dk_159 0 9 (dk_at dksX1_lay_1 3 rfl rfl)
theorem dX1_lay_30 : decode cX1_lay 30 = .ok (.iload_n 2, 1) := dk_28 (dk_at dksX1_lay_1 6 rfl rfl)
theorem dX1_lay_31 : decode cX1_lay 31 = .ok (.bipush 6, 2) := dk_16 6 (dk_at dksX1_lay_1 7 rfl rfl)
theorem dX1_lay_33 : decode cX1_lay 33 = .ok (.if_icmp .ne 21, 3) := dk_160 0 21 (dk_at dksX1_lay_1 9 rfl rfl)
theorem dX1_lay_36 : decode cX1_lay 36 = .ok (.aload_n 3, 1) := dk_45 (dk_at dksX1_lay_1 12 rfl rfl)
theorem dX1_lay_37 : decode cX1_lay 37 = .ok (.iload_n 1, 1) := dk_27 (dk_at dksX1_lay_1 13 rfl rfl)
theorem dX1_lay_38 : decode cX1_lay 38 = .ok (.invokevirtual 146, 3) := dk_182 0 146 (dk_at dksX1_lay_1 14 rfl rfl)
theorem dX1_lay_41 : decode cX1_lay 41 = .ok (.ifCond .ne 11, 3) := dk_154 0 11 (dk_at dksX1_lay_1 17 rfl rfl)
theorem dX1_lay_44 : decode cX1_lay 44 = .ok (.aload_n 3, 1) := dk_45 (dk_at dksX1_lay_1 20 rfl rfl)
theorem dX1_lay_45 : decode cX1_lay 45 = .ok (.iload_n 1, 1) := dk_27 (dk_at dksX1_lay_1 21 rfl rfl)
theorem dX1_lay_46 : decode cX1_lay 46 = .ok (.invokevirtual 249, 3) := dk_182 0 249 (dk_at dksX1_lay_2 0 rfl rfl)
theorem dX1_lay_49 : decode cX1_lay 49 = .ok (.ifCond .eq 5, 3) := dk_153 0 5 (dk_at dksX1_lay_2 3 rfl rfl)
theorem dX1_lay_52 : decode cX1_lay 52 = .ok (.iconst 0, 1) := dk_3 (dk_at dksX1_lay_2 6 rfl rfl)
theorem dX1_lay_53 : decode cX1_lay 53 = .ok (.ireturn, 1) := dk_172 (dk_at dksX1_lay_2 7 rfl rfl)
theorem dX1_lay_54 : decode cX1_lay 54 = .ok (.aload_n 3, 1) := dk_45 (dk_at dksX1_lay_2 8 rfl rfl)
theorem dX1_lay_55 : decode cX1_lay 55 = .ok (.iload_n 1, 1) := dk_27 (dk_at dksX1_lay_2 9 rfl rfl)
theorem dX1_lay_56 : decode cX1_lay 56 = .ok (.iload_n 2, 1) := dk_28 (dk_at dksX1_lay_2 10 rfl rfl)
theorem dX1_lay_57 : decode cX1_lay 57 = .ok (.invokevirtual 252, 3) := dk_182 0 252 (dk_at dksX1_lay_2 11 rfl rfl)
theorem dX1_lay_60 : decode cX1_lay 60 = .ok (.iconst 1, 1) := dk_4 (dk_at dksX1_lay_2 14 rfl rfl)
theorem dX1_lay_61 : decode cX1_lay 61 = .ok (.ireturn, 1) := dk_172 (dk_at dksX1_lay_2 15 rfl rfl)
abbrev cX1_walker : ByteArray := prog_1_method_27_code
def yX1_walker : MethodName := ⟨RX1, "walker", "(II)I"⟩
def dkwX1_walker_3 : List UInt8 := [167, 0, 4, 2, 172]
abbrev dktX1_walker_3 : List UInt8 := dkwX1_walker_3 ++ []
def dkwX1_walker_2 : List UInt8 := [167, 0, 28, 28, 4, 160, 0, 10, 45, 180, 1, 28, 167, 0, 16, 28, 5, 160, 0, 10, 45, 180, 1, 31]
abbrev dktX1_walker_2 : List UInt8 := dkwX1_walker_2 ++ dktX1_walker_3
def dkwX1_walker_1 : List UInt8 := [180, 0, 39, 180, 1, 20, 27, 182, 0, 9, 192, 1, 23, 78, 28, 154, 0, 10, 45, 180, 1, 25]
abbrev dktX1_walker_1 : List UInt8 := dkwX1_walker_1 ++ dktX1_walker_2
def dkwX1_walker_0 : List UInt8 := [27, 3, 42, 180, 0, 39, 180, 1, 20, 182, 0, 3, 4, 100, 184, 0, 112, 154, 0, 5, 2, 172, 42]
abbrev dktX1_walker_0 : List UInt8 := dkwX1_walker_0 ++ dktX1_walker_1
theorem dksX1_walker_0 : cX1_walker.data.toList.drop 0 = dktX1_walker_0 := by decide +kernel
theorem dksX1_walker_1 : cX1_walker.data.toList.drop 23 = dktX1_walker_1 := dk_seg dksX1_walker_0 23 rfl rfl
theorem dksX1_walker_2 : cX1_walker.data.toList.drop 45 = dktX1_walker_2 := dk_seg dksX1_walker_1 22 rfl rfl
theorem dksX1_walker_3 : cX1_walker.data.toList.drop 69 = dktX1_walker_3 := dk_seg dksX1_walker_2 24 rfl rfl
theorem dX1_walker_0 : decode cX1_walker 0 = .ok (.iload_n 1, 1) := dk_27 (dk_at dksX1_walker_0 0 rfl rfl)
theorem dX1_walker_1 : decode cX1_walker 1 = .ok (.iconst 0, 1) := dk_3 (dk_at dksX1_walker_0 1 rfl rfl)
theorem dX1_walker_2 : decode cX1_walker 2 = .ok (.aload_n 0, 1) := dk_42 (dk_at dksX1_walker_0 2 rfl rfl)
theorem dX1_walker_3 : decode cX1_walker 3 = .ok (.getfield 39, 3) := dk_180 0 39 (dk_at dksX1_walker_0 3 rfl rfl)
theorem dX1_walker_6 : decode cX1_walker 6 = .ok (.getfield 276, 3) := dk_180 1 20 (dk_at dksX1_walker_0 6 rfl rfl)
theorem dX1_walker_9 : decode cX1_walker 9 = .ok (.invokevirtual 3, 3) := dk_182 0 3 (dk_at dksX1_walker_0 9 rfl rfl)
theorem dX1_walker_12 : decode cX1_walker 12 = .ok (.iconst 1, 1) := dk_4 (dk_at dksX1_walker_0 12 rfl rfl)
theorem dX1_walker_13 : decode cX1_walker 13 = .ok (.isub, 1) := dk_100 (dk_at dksX1_walker_0 13 rfl rfl)
theorem dX1_walker_14 : decode cX1_walker 14 = .ok (.invokestatic 112, 3) := dk_184 0 112 (dk_at dksX1_walker_0 14 rfl rfl)
theorem dX1_walker_17 : decode cX1_walker 17 = .ok (.ifCond .ne 5, 3) := dk_154 0 5 (dk_at dksX1_walker_0 17 rfl rfl)
theorem dX1_walker_20 : decode cX1_walker 20 = .ok (.iconst (-1), 1) := dk_2 (dk_at dksX1_walker_0 20 rfl rfl)
theorem dX1_walker_21 : decode cX1_walker 21 = .ok (.ireturn, 1) := dk_172 (dk_at dksX1_walker_0 21 rfl rfl)
theorem dX1_walker_22 : decode cX1_walker 22 = .ok (.aload_n 0, 1) := dk_42 (dk_at dksX1_walker_0 22 rfl rfl)
theorem dX1_walker_23 : decode cX1_walker 23 = .ok (.getfield 39, 3) := dk_180 0 39 (dk_at dksX1_walker_1 0 rfl rfl)
theorem dX1_walker_26 : decode cX1_walker 26 = .ok (.getfield 276, 3) := dk_180 1 20 (dk_at dksX1_walker_1 3 rfl rfl)
theorem dX1_walker_29 : decode cX1_walker 29 = .ok (.iload_n 1, 1) := dk_27 (dk_at dksX1_walker_1 6 rfl rfl)
theorem dX1_walker_30 : decode cX1_walker 30 = .ok (.invokevirtual 9, 3) := dk_182 0 9 (dk_at dksX1_walker_1 7 rfl rfl)
theorem dX1_walker_33 : decode cX1_walker 33 = .ok (.checkcast 279, 3) := dk_192 1 23 (dk_at dksX1_walker_1 10 rfl rfl)
theorem dX1_walker_36 : decode cX1_walker 36 = .ok (.astore_n 3, 1) := dk_78 (dk_at dksX1_walker_1 13 rfl rfl)
theorem dX1_walker_37 : decode cX1_walker 37 = .ok (.iload_n 2, 1) := dk_28 (dk_at dksX1_walker_1 14 rfl rfl)
theorem dX1_walker_38 : decode cX1_walker 38 = .ok (.ifCond .ne 10, 3) := dk_154 0 10 (dk_at dksX1_walker_1 15 rfl rfl)
theorem dX1_walker_41 : decode cX1_walker 41 = .ok (.aload_n 3, 1) := dk_45 (dk_at dksX1_walker_1 18 rfl rfl)
theorem dX1_walker_42 : decode cX1_walker 42 = .ok (.getfield 281, 3) := dk_180 1 25 (dk_at dksX1_walker_1 19 rfl rfl)
theorem dX1_walker_45 : decode cX1_walker 45 = .ok (.goto 28, 3) := dk_167 0 28 (dk_at dksX1_walker_2 0 rfl rfl)
theorem dX1_walker_48 : decode cX1_walker 48 = .ok (.iload_n 2, 1) := dk_28 (dk_at dksX1_walker_2 3 rfl rfl)
theorem dX1_walker_49 : decode cX1_walker 49 = .ok (.iconst 1, 1) := dk_4 (dk_at dksX1_walker_2 4 rfl rfl)
theorem dX1_walker_50 : decode cX1_walker 50 = .ok (.if_icmp .ne 10, 3) := dk_160 0 10 (dk_at dksX1_walker_2 5 rfl rfl)
theorem dX1_walker_53 : decode cX1_walker 53 = .ok (.aload_n 3, 1) := dk_45 (dk_at dksX1_walker_2 8 rfl rfl)
theorem dX1_walker_54 : decode cX1_walker 54 = .ok (.getfield 284, 3) := dk_180 1 28 (dk_at dksX1_walker_2 9 rfl rfl)
theorem dX1_walker_57 : decode cX1_walker 57 = .ok (.goto 16, 3) := dk_167 0 16 (dk_at dksX1_walker_2 12 rfl rfl)
theorem dX1_walker_60 : decode cX1_walker 60 = .ok (.iload_n 2, 1) := dk_28 (dk_at dksX1_walker_2 15 rfl rfl)
theorem dX1_walker_61 : decode cX1_walker 61 = .ok (.iconst 2, 1) := dk_5 (dk_at dksX1_walker_2 16 rfl rfl)
theorem dX1_walker_62 : decode cX1_walker 62 = .ok (.if_icmp .ne 10, 3) := dk_160 0 10 (dk_at dksX1_walker_2 17 rfl rfl)
theorem dX1_walker_65 : decode cX1_walker 65 = .ok (.aload_n 3, 1) := dk_45 (dk_at dksX1_walker_2 20 rfl rfl)
theorem dX1_walker_66 : decode cX1_walker 66 = .ok (.getfield 287, 3) := dk_180 1 31 (dk_at dksX1_walker_2 21 rfl rfl)
theorem dX1_walker_69 : decode cX1_walker 69 = .ok (.goto 4, 3) := dk_167 0 4 (dk_at dksX1_walker_3 0 rfl rfl)
theorem dX1_walker_72 : decode cX1_walker 72 = .ok (.iconst (-1), 1) := dk_2 (dk_at dksX1_walker_3 3 rfl rfl)
theorem dX1_walker_73 : decode cX1_walker 73 = .ok (.ireturn, 1) := dk_172 (dk_at dksX1_walker_3 4 rfl rfl)
abbrev cX1_net : ByteArray := prog_1_method_28_code
def yX1_net : MethodName := ⟨RX1, "net", "()I"⟩
def dkwX1_net_0 : List UInt8 := [42, 180, 0, 39, 42, 180, 0, 49, 182, 0, 221, 172]
abbrev dktX1_net_0 : List UInt8 := dkwX1_net_0 ++ []
theorem dksX1_net_0 : cX1_net.data.toList.drop 0 = dktX1_net_0 := by decide +kernel
theorem dX1_net_0 : decode cX1_net 0 = .ok (.aload_n 0, 1) := dk_42 (dk_at dksX1_net_0 0 rfl rfl)
theorem dX1_net_1 : decode cX1_net 1 = .ok (.getfield 39, 3) := dk_180 0 39 (dk_at dksX1_net_0 1 rfl rfl)
theorem dX1_net_4 : decode cX1_net 4 = .ok (.aload_n 0, 1) := dk_42 (dk_at dksX1_net_0 4 rfl rfl)
theorem dX1_net_5 : decode cX1_net 5 = .ok (.getfield 49, 3) := dk_180 0 49 (dk_at dksX1_net_0 5 rfl rfl)
theorem dX1_net_8 : decode cX1_net 8 = .ok (.invokevirtual 221, 3) := dk_182 0 221 (dk_at dksX1_net_0 8 rfl rfl)
theorem dX1_net_11 : decode cX1_net 11 = .ok (.ireturn, 1) := dk_172 (dk_at dksX1_net_0 11 rfl rfl)
abbrev cX1_pieces : ByteArray := prog_1_method_29_code
def yX1_pieces : MethodName := ⟨RX1, "pieces", "()I"⟩
def dkwX1_pieces_7 : List UInt8 := [21, 4, 172]
abbrev dktX1_pieces_7 : List UInt8 := dkwX1_pieces_7 ++ []
def dkwX1_pieces_6 : List UInt8 := [21, 9, 79, 132, 6, 1, 132, 8, 1, 167, 255, 191, 132, 7, 1, 167, 255, 175, 132, 5, 1, 167, 255, 118]
abbrev dktX1_pieces_6 : List UInt8 := dkwX1_pieces_6 ++ dktX1_pieces_7
def dkwX1_pieces_5 : List UInt8 := [42, 180, 0, 49, 21, 9, 182, 1, 13, 154, 0, 6, 167, 0, 17, 44, 21, 9, 4, 84, 45, 21, 6]
abbrev dktX1_pieces_5 : List UInt8 := dkwX1_pieces_5 ++ dktX1_pieces_6
def dkwX1_pieces_4 : List UInt8 := [21, 7, 46, 21, 8, 182, 1, 34, 54, 9, 21, 9, 2, 159, 0, 40, 44, 21, 9, 51, 154, 0, 33, 43]
abbrev dktX1_pieces_4 : List UInt8 := dkwX1_pieces_4 ++ dktX1_pieces_5
def dkwX1_pieces_3 : List UInt8 := [84, 3, 54, 7, 21, 7, 21, 6, 162, 0, 80, 3, 54, 8, 21, 8, 16, 8, 162, 0, 64, 43, 45]
abbrev dktX1_pieces_3 : List UInt8 := dkwX1_pieces_3 ++ dktX1_pieces_4
def dkwX1_pieces_2 : List UInt8 := [182, 1, 13, 154, 0, 6, 167, 0, 106, 132, 4, 1, 4, 54, 6, 45, 3, 21, 5, 79, 44, 21, 5, 4]
abbrev dktX1_pieces_2 : List UInt8 := dkwX1_pieces_2 ++ dktX1_pieces_3
def dkwX1_pieces_1 : List UInt8 := [21, 5, 43, 182, 0, 225, 162, 0, 135, 44, 21, 5, 51, 154, 0, 122, 43, 42, 180, 0, 49, 21, 5]
abbrev dktX1_pieces_1 : List UInt8 := dkwX1_pieces_1 ++ dktX1_pieces_2
def dkwX1_pieces_0 : List UInt8 := [42, 180, 0, 39, 76, 17, 1, 0, 188, 4, 77, 17, 1, 0, 188, 10, 78, 3, 54, 4, 3, 54, 5]
abbrev dktX1_pieces_0 : List UInt8 := dkwX1_pieces_0 ++ dktX1_pieces_1
theorem dksX1_pieces_0 : cX1_pieces.data.toList.drop 0 = dktX1_pieces_0 := by decide +kernel
theorem dksX1_pieces_1 : cX1_pieces.data.toList.drop 23 = dktX1_pieces_1 := dk_seg dksX1_pieces_0 23 rfl rfl
theorem dksX1_pieces_2 : cX1_pieces.data.toList.drop 46 = dktX1_pieces_2 := dk_seg dksX1_pieces_1 23 rfl rfl
theorem dksX1_pieces_3 : cX1_pieces.data.toList.drop 70 = dktX1_pieces_3 := dk_seg dksX1_pieces_2 24 rfl rfl
theorem dksX1_pieces_4 : cX1_pieces.data.toList.drop 93 = dktX1_pieces_4 := dk_seg dksX1_pieces_3 23 rfl rfl
theorem dksX1_pieces_5 : cX1_pieces.data.toList.drop 117 = dktX1_pieces_5 := dk_seg dksX1_pieces_4 24 rfl rfl
theorem dksX1_pieces_6 : cX1_pieces.data.toList.drop 140 = dktX1_pieces_6 := dk_seg dksX1_pieces_5 23 rfl rfl
theorem dksX1_pieces_7 : cX1_pieces.data.toList.drop 164 = dktX1_pieces_7 := dk_seg dksX1_pieces_6 24 rfl rfl
theorem dX1_pieces_0 : decode cX1_pieces 0 = .ok (.aload_n 0, 1) := dk_42 (dk_at dksX1_pieces_0 0 rfl rfl)
theorem dX1_pieces_1 : decode cX1_pieces 1 = .ok (.getfield 39, 3) := dk_180 0 39 (dk_at dksX1_pieces_0 1 rfl rfl)
theorem dX1_pieces_4 : decode cX1_pieces 4 = .ok (.astore_n 1, 1) := dk_76 (dk_at dksX1_pieces_0 4 rfl rfl)
theorem dX1_pieces_5 : decode cX1_pieces 5 = .ok (.sipush 256, 3) := dk_17 1 0 (dk_at dksX1_pieces_0 5 rfl rfl)
theorem dX1_pieces_8 : decode cX1_pieces 8 = .ok (.newarray .boolean, 2) := dk_188_4 (dk_at dksX1_pieces_0 8 rfl rfl)
theorem dX1_pieces_10 : decode cX1_pieces 10 = .ok (.astore_n 2, 1) := dk_77 (dk_at dksX1_pieces_0 10 rfl rfl)
theorem dX1_pieces_11 : decode cX1_pieces 11 = .ok (.sipush 256, 3) := dk_17 1 0 (dk_at dksX1_pieces_0 11 rfl rfl)
theorem dX1_pieces_14 : decode cX1_pieces 14 = .ok (.newarray .int, 2) := dk_188_10 (dk_at dksX1_pieces_0 14 rfl rfl)
theorem dX1_pieces_16 : decode cX1_pieces 16 = .ok (.astore_n 3, 1) := dk_78 (dk_at dksX1_pieces_0 16 rfl rfl)
theorem dX1_pieces_17 : decode cX1_pieces 17 = .ok (.iconst 0, 1) := dk_3 (dk_at dksX1_pieces_0 17 rfl rfl)
theorem dX1_pieces_18 : decode cX1_pieces 18 = .ok (.istore 4, 2) := dk_54 4 (dk_at dksX1_pieces_0 18 rfl rfl)
theorem dX1_pieces_20 : decode cX1_pieces 20 = .ok (.iconst 0, 1) := dk_3 (dk_at dksX1_pieces_0 20 rfl rfl)
theorem dX1_pieces_21 : decode cX1_pieces 21 = .ok (.istore 5, 2) := dk_54 5 (dk_at dksX1_pieces_0 21 rfl rfl)
theorem dX1_pieces_23 : decode cX1_pieces 23 = .ok (.iload 5, 2) := dk_21 5 (dk_at dksX1_pieces_1 0 rfl rfl)
theorem dX1_pieces_25 : decode cX1_pieces 25 = .ok (.aload_n 1, 1) := dk_43 (dk_at dksX1_pieces_1 2 rfl rfl)
theorem dX1_pieces_26 : decode cX1_pieces 26 = .ok (.invokevirtual 225, 3) := dk_182 0 225 (dk_at dksX1_pieces_1 3 rfl rfl)
theorem dX1_pieces_29 : decode cX1_pieces 29 = .ok (.if_icmp .ge 135, 3) := dk_162 0 135 (dk_at dksX1_pieces_1 6 rfl rfl)
theorem dX1_pieces_32 : decode cX1_pieces 32 = .ok (.aload_n 2, 1) := dk_44 (dk_at dksX1_pieces_1 9 rfl rfl)
theorem dX1_pieces_33 : decode cX1_pieces 33 = .ok (.iload 5, 2) := dk_21 5 (dk_at dksX1_pieces_1 10 rfl rfl)
theorem dX1_pieces_35 : decode cX1_pieces 35 = .ok (.baload, 1) := dk_51 (dk_at dksX1_pieces_1 12 rfl rfl)
theorem dX1_pieces_36 : decode cX1_pieces 36 = .ok (.ifCond .ne 122, 3) := dk_154 0 122 (dk_at dksX1_pieces_1 13 rfl rfl)
theorem dX1_pieces_39 : decode cX1_pieces 39 = .ok (.aload_n 1, 1) := dk_43 (dk_at dksX1_pieces_1 16 rfl rfl)
theorem dX1_pieces_40 : decode cX1_pieces 40 = .ok (.aload_n 0, 1) := dk_42 (dk_at dksX1_pieces_1 17 rfl rfl)
theorem dX1_pieces_41 : decode cX1_pieces 41 = .ok (.getfield 49, 3) := dk_180 0 49 (dk_at dksX1_pieces_1 18 rfl rfl)
theorem dX1_pieces_44 : decode cX1_pieces 44 = .ok (.iload 5, 2) := dk_21 5 (dk_at dksX1_pieces_1 21 rfl rfl)
theorem dX1_pieces_46 : decode cX1_pieces 46 = .ok (.invokevirtual 269, 3) := dk_182 1 13 (dk_at dksX1_pieces_2 0 rfl rfl)
theorem dX1_pieces_49 : decode cX1_pieces 49 = .ok (.ifCond .ne 6, 3) := dk_154 0 6 (dk_at dksX1_pieces_2 3 rfl rfl)
theorem dX1_pieces_52 : decode cX1_pieces 52 = .ok (.goto 106, 3) := dk_167 0 106 (dk_at dksX1_pieces_2 6 rfl rfl)
theorem dX1_pieces_55 : decode cX1_pieces 55 = .ok (.iinc 4 1, 3) := dk_132 4 1 (dk_at dksX1_pieces_2 9 rfl rfl)
theorem dX1_pieces_58 : decode cX1_pieces 58 = .ok (.iconst 1, 1) := dk_4 (dk_at dksX1_pieces_2 12 rfl rfl)
theorem dX1_pieces_59 : decode cX1_pieces 59 = .ok (.istore 6, 2) := dk_54 6 (dk_at dksX1_pieces_2 13 rfl rfl)
theorem dX1_pieces_61 : decode cX1_pieces 61 = .ok (.aload_n 3, 1) := dk_45 (dk_at dksX1_pieces_2 15 rfl rfl)
theorem dX1_pieces_62 : decode cX1_pieces 62 = .ok (.iconst 0, 1) := dk_3 (dk_at dksX1_pieces_2 16 rfl rfl)
theorem dX1_pieces_63 : decode cX1_pieces 63 = .ok (.iload 5, 2) := dk_21 5 (dk_at dksX1_pieces_2 17 rfl rfl)
theorem dX1_pieces_65 : decode cX1_pieces 65 = .ok (.iastore, 1) := dk_79 (dk_at dksX1_pieces_2 19 rfl rfl)
theorem dX1_pieces_66 : decode cX1_pieces 66 = .ok (.aload_n 2, 1) := dk_44 (dk_at dksX1_pieces_2 20 rfl rfl)
theorem dX1_pieces_67 : decode cX1_pieces 67 = .ok (.iload 5, 2) := dk_21 5 (dk_at dksX1_pieces_2 21 rfl rfl)
theorem dX1_pieces_69 : decode cX1_pieces 69 = .ok (.iconst 1, 1) := dk_4 (dk_at dksX1_pieces_2 23 rfl rfl)
theorem dX1_pieces_70 : decode cX1_pieces 70 = .ok (.bastore, 1) := dk_84 (dk_at dksX1_pieces_3 0 rfl rfl)
theorem dX1_pieces_71 : decode cX1_pieces 71 = .ok (.iconst 0, 1) := dk_3 (dk_at dksX1_pieces_3 1 rfl rfl)
theorem dX1_pieces_72 : decode cX1_pieces 72 = .ok (.istore 7, 2) := dk_54 7 (dk_at dksX1_pieces_3 2 rfl rfl)
theorem dX1_pieces_74 : decode cX1_pieces 74 = .ok (.iload 7, 2) := dk_21 7 (dk_at dksX1_pieces_3 4 rfl rfl)
theorem dX1_pieces_76 : decode cX1_pieces 76 = .ok (.iload 6, 2) := dk_21 6 (dk_at dksX1_pieces_3 6 rfl rfl)
theorem dX1_pieces_78 : decode cX1_pieces 78 = .ok (.if_icmp .ge 80, 3) := dk_162 0 80 (dk_at dksX1_pieces_3 8 rfl rfl)
theorem dX1_pieces_81 : decode cX1_pieces 81 = .ok (.iconst 0, 1) := dk_3 (dk_at dksX1_pieces_3 11 rfl rfl)
theorem dX1_pieces_82 : decode cX1_pieces 82 = .ok (.istore 8, 2) := dk_54 8 (dk_at dksX1_pieces_3 12 rfl rfl)
theorem dX1_pieces_84 : decode cX1_pieces 84 = .ok (.iload 8, 2) := dk_21 8 (dk_at dksX1_pieces_3 14 rfl rfl)
theorem dX1_pieces_86 : decode cX1_pieces 86 = .ok (.bipush 8, 2) := dk_16 8 (dk_at dksX1_pieces_3 16 rfl rfl)
theorem dX1_pieces_88 : decode cX1_pieces 88 = .ok (.if_icmp .ge 64, 3) := dk_162 0 64 (dk_at dksX1_pieces_3 18 rfl rfl)
theorem dX1_pieces_91 : decode cX1_pieces 91 = .ok (.aload_n 1, 1) := dk_43 (dk_at dksX1_pieces_3 21 rfl rfl)
theorem dX1_pieces_92 : decode cX1_pieces 92 = .ok (.aload_n 3, 1) := dk_45 (dk_at dksX1_pieces_3 22 rfl rfl)
theorem dX1_pieces_93 : decode cX1_pieces 93 = .ok (.iload 7, 2) := dk_21 7 (dk_at dksX1_pieces_4 0 rfl rfl)
theorem dX1_pieces_95 : decode cX1_pieces 95 = .ok (.iaload, 1) := dk_46 (dk_at dksX1_pieces_4 2 rfl rfl)
theorem dX1_pieces_96 : decode cX1_pieces 96 = .ok (.iload 8, 2) := dk_21 8 (dk_at dksX1_pieces_4 3 rfl rfl)
theorem dX1_pieces_98 : decode cX1_pieces 98 = .ok (.invokevirtual 290, 3) := dk_182 1 34 (dk_at dksX1_pieces_4 5 rfl rfl)
theorem dX1_pieces_101 : decode cX1_pieces 101 = .ok (.istore 9, 2) := dk_54 9 (dk_at dksX1_pieces_4 8 rfl rfl)
theorem dX1_pieces_103 : decode cX1_pieces 103 = .ok (.iload 9, 2) := dk_21 9 (dk_at dksX1_pieces_4 10 rfl rfl)
theorem dX1_pieces_105 : decode cX1_pieces 105 = .ok (.iconst (-1), 1) := dk_2 (dk_at dksX1_pieces_4 12 rfl rfl)
theorem dX1_pieces_106 : decode cX1_pieces 106 = .ok (.if_icmp .eq 40, 3) := dk_159 0 40 (dk_at dksX1_pieces_4 13 rfl rfl)
theorem dX1_pieces_109 : decode cX1_pieces 109 = .ok (.aload_n 2, 1) := dk_44 (dk_at dksX1_pieces_4 16 rfl rfl)
theorem dX1_pieces_110 : decode cX1_pieces 110 = .ok (.iload 9, 2) := dk_21 9 (dk_at dksX1_pieces_4 17 rfl rfl)
theorem dX1_pieces_112 : decode cX1_pieces 112 = .ok (.baload, 1) := dk_51 (dk_at dksX1_pieces_4 19 rfl rfl)
theorem dX1_pieces_113 : decode cX1_pieces 113 = .ok (.ifCond .ne 33, 3) := dk_154 0 33 (dk_at dksX1_pieces_4 20 rfl rfl)
theorem dX1_pieces_116 : decode cX1_pieces 116 = .ok (.aload_n 1, 1) := dk_43 (dk_at dksX1_pieces_4 23 rfl rfl)
theorem dX1_pieces_117 : decode cX1_pieces 117 = .ok (.aload_n 0, 1) := dk_42 (dk_at dksX1_pieces_5 0 rfl rfl)
theorem dX1_pieces_118 : decode cX1_pieces 118 = .ok (.getfield 49, 3) := dk_180 0 49 (dk_at dksX1_pieces_5 1 rfl rfl)
theorem dX1_pieces_121 : decode cX1_pieces 121 = .ok (.iload 9, 2) := dk_21 9 (dk_at dksX1_pieces_5 4 rfl rfl)
theorem dX1_pieces_123 : decode cX1_pieces 123 = .ok (.invokevirtual 269, 3) := dk_182 1 13 (dk_at dksX1_pieces_5 6 rfl rfl)
theorem dX1_pieces_126 : decode cX1_pieces 126 = .ok (.ifCond .ne 6, 3) := dk_154 0 6 (dk_at dksX1_pieces_5 9 rfl rfl)
theorem dX1_pieces_129 : decode cX1_pieces 129 = .ok (.goto 17, 3) := dk_167 0 17 (dk_at dksX1_pieces_5 12 rfl rfl)
theorem dX1_pieces_132 : decode cX1_pieces 132 = .ok (.aload_n 2, 1) := dk_44 (dk_at dksX1_pieces_5 15 rfl rfl)
theorem dX1_pieces_133 : decode cX1_pieces 133 = .ok (.iload 9, 2) := dk_21 9 (dk_at dksX1_pieces_5 16 rfl rfl)
theorem dX1_pieces_135 : decode cX1_pieces 135 = .ok (.iconst 1, 1) := dk_4 (dk_at dksX1_pieces_5 18 rfl rfl)
theorem dX1_pieces_136 : decode cX1_pieces 136 = .ok (.bastore, 1) := dk_84 (dk_at dksX1_pieces_5 19 rfl rfl)
theorem dX1_pieces_137 : decode cX1_pieces 137 = .ok (.aload_n 3, 1) := dk_45 (dk_at dksX1_pieces_5 20 rfl rfl)
theorem dX1_pieces_138 : decode cX1_pieces 138 = .ok (.iload 6, 2) := dk_21 6 (dk_at dksX1_pieces_5 21 rfl rfl)
theorem dX1_pieces_140 : decode cX1_pieces 140 = .ok (.iload 9, 2) := dk_21 9 (dk_at dksX1_pieces_6 0 rfl rfl)
theorem dX1_pieces_142 : decode cX1_pieces 142 = .ok (.iastore, 1) := dk_79 (dk_at dksX1_pieces_6 2 rfl rfl)
theorem dX1_pieces_143 : decode cX1_pieces 143 = .ok (.iinc 6 1, 3) := dk_132 6 1 (dk_at dksX1_pieces_6 3 rfl rfl)
theorem dX1_pieces_146 : decode cX1_pieces 146 = .ok (.iinc 8 1, 3) := dk_132 8 1 (dk_at dksX1_pieces_6 6 rfl rfl)
theorem dX1_pieces_149 : decode cX1_pieces 149 = .ok (.goto (-65), 3) := dk_167 255 191 (dk_at dksX1_pieces_6 9 rfl rfl)
theorem dX1_pieces_152 : decode cX1_pieces 152 = .ok (.iinc 7 1, 3) := dk_132 7 1 (dk_at dksX1_pieces_6 12 rfl rfl)
theorem dX1_pieces_155 : decode cX1_pieces 155 = .ok (.goto (-81), 3) := dk_167 255 175 (dk_at dksX1_pieces_6 15 rfl rfl)
theorem dX1_pieces_158 : decode cX1_pieces 158 = .ok (.iinc 5 1, 3) := dk_132 5 1 (dk_at dksX1_pieces_6 18 rfl rfl)
theorem dX1_pieces_161 : decode cX1_pieces 161 = .ok (.goto (-138), 3) := dk_167 255 118 (dk_at dksX1_pieces_6 21 rfl rfl)
theorem dX1_pieces_164 : decode cX1_pieces 164 = .ok (.iload 4, 2) := dk_21 4 (dk_at dksX1_pieces_7 0 rfl rfl)
theorem dX1_pieces_166 : decode cX1_pieces 166 = .ok (.ireturn, 1) := dk_172 (dk_at dksX1_pieces_7 2 rfl rfl)
abbrev cX1_rests : ByteArray := prog_1_method_33_code
def yX1_rests : MethodName := ⟨RX1, "rests", "(II)I"⟩
def dkwX1_rests_4 : List UInt8 := [25, 5, 3, 25, 4, 3, 17, 1, 0, 184, 1, 56, 132, 6, 1, 167, 255, 202, 2, 172]
abbrev dktX1_rests_4 : List UInt8 := dkwX1_rests_4 ++ []
def dkwX1_rests_3 : List UInt8 := [182, 1, 49, 42, 45, 25, 5, 182, 1, 45, 25, 4, 25, 5, 184, 1, 52, 153, 0, 6, 21, 6, 172]
abbrev dktX1_rests_3 : List UInt8 := dkwX1_rests_3 ++ dktX1_rests_4
def dkwX1_rests_2 : List UInt8 := [182, 1, 45, 4, 54, 6, 21, 6, 27, 163, 0, 54, 45, 28, 42, 180, 0, 49, 42, 180, 0, 55]
abbrev dktX1_rests_2 : List UInt8 := dkwX1_rests_2 ++ dktX1_rests_3
def dkwX1_rests_1 : List UInt8 := [182, 1, 41, 78, 17, 1, 0, 188, 4, 58, 4, 17, 1, 0, 188, 4, 58, 5, 42, 45, 25, 4]
abbrev dktX1_rests_1 : List UInt8 := dkwX1_rests_1 ++ dktX1_rests_2
def dkwX1_rests_0 : List UInt8 := [27, 16, 40, 28, 17, 0, 200, 184, 1, 37, 154, 0, 6, 16, 254, 172, 42, 180, 0, 39, 42, 180, 0, 43]
abbrev dktX1_rests_0 : List UInt8 := dkwX1_rests_0 ++ dktX1_rests_1
theorem dksX1_rests_0 : cX1_rests.data.toList.drop 0 = dktX1_rests_0 := by decide +kernel
theorem dksX1_rests_1 : cX1_rests.data.toList.drop 24 = dktX1_rests_1 := dk_seg dksX1_rests_0 24 rfl rfl
theorem dksX1_rests_2 : cX1_rests.data.toList.drop 46 = dktX1_rests_2 := dk_seg dksX1_rests_1 22 rfl rfl
theorem dksX1_rests_3 : cX1_rests.data.toList.drop 68 = dktX1_rests_3 := dk_seg dksX1_rests_2 22 rfl rfl
theorem dksX1_rests_4 : cX1_rests.data.toList.drop 91 = dktX1_rests_4 := dk_seg dksX1_rests_3 23 rfl rfl
theorem dX1_rests_0 : decode cX1_rests 0 = .ok (.iload_n 1, 1) := dk_27 (dk_at dksX1_rests_0 0 rfl rfl)
theorem dX1_rests_1 : decode cX1_rests 1 = .ok (.bipush 40, 2) := dk_16 40 (dk_at dksX1_rests_0 1 rfl rfl)
theorem dX1_rests_3 : decode cX1_rests 3 = .ok (.iload_n 2, 1) := dk_28 (dk_at dksX1_rests_0 3 rfl rfl)
theorem dX1_rests_4 : decode cX1_rests 4 = .ok (.sipush 200, 3) := dk_17 0 200 (dk_at dksX1_rests_0 4 rfl rfl)
theorem dX1_rests_7 : decode cX1_rests 7 = .ok (.invokestatic 293, 3) := dk_184 1 37 (dk_at dksX1_rests_0 7 rfl rfl)
theorem dX1_rests_10 : decode cX1_rests 10 = .ok (.ifCond .ne 6, 3) := dk_154 0 6 (dk_at dksX1_rests_0 10 rfl rfl)
theorem dX1_rests_13 : decode cX1_rests 13 = .ok (.bipush (-2), 2) := dk_16 254 (dk_at dksX1_rests_0 13 rfl rfl)
theorem dX1_rests_15 : decode cX1_rests 15 = .ok (.ireturn, 1) := dk_172 (dk_at dksX1_rests_0 15 rfl rfl)
theorem dX1_rests_16 : decode cX1_rests 16 = .ok (.aload_n 0, 1) := dk_42 (dk_at dksX1_rests_0 16 rfl rfl)
theorem dX1_rests_17 : decode cX1_rests 17 = .ok (.getfield 39, 3) := dk_180 0 39 (dk_at dksX1_rests_0 17 rfl rfl)
theorem dX1_rests_20 : decode cX1_rests 20 = .ok (.aload_n 0, 1) := dk_42 (dk_at dksX1_rests_0 20 rfl rfl)
theorem dX1_rests_21 : decode cX1_rests 21 = .ok (.getfield 43, 3) := dk_180 0 43 (dk_at dksX1_rests_0 21 rfl rfl)
theorem dX1_rests_24 : decode cX1_rests 24 = .ok (.invokevirtual 297, 3) := dk_182 1 41 (dk_at dksX1_rests_1 0 rfl rfl)
theorem dX1_rests_27 : decode cX1_rests 27 = .ok (.astore_n 3, 1) := dk_78 (dk_at dksX1_rests_1 3 rfl rfl)
theorem dX1_rests_28 : decode cX1_rests 28 = .ok (.sipush 256, 3) := dk_17 1 0 (dk_at dksX1_rests_1 4 rfl rfl)
theorem dX1_rests_31 : decode cX1_rests 31 = .ok (.newarray .boolean, 2) := dk_188_4 (dk_at dksX1_rests_1 7 rfl rfl)
theorem dX1_rests_33 : decode cX1_rests 33 = .ok (.astore 4, 2) := dk_58 4 (dk_at dksX1_rests_1 9 rfl rfl)
theorem dX1_rests_35 : decode cX1_rests 35 = .ok (.sipush 256, 3) := dk_17 1 0 (dk_at dksX1_rests_1 11 rfl rfl)
theorem dX1_rests_38 : decode cX1_rests 38 = .ok (.newarray .boolean, 2) := dk_188_4 (dk_at dksX1_rests_1 14 rfl rfl)
theorem dX1_rests_40 : decode cX1_rests 40 = .ok (.astore 5, 2) := dk_58 5 (dk_at dksX1_rests_1 16 rfl rfl)
theorem dX1_rests_42 : decode cX1_rests 42 = .ok (.aload_n 0, 1) := dk_42 (dk_at dksX1_rests_1 18 rfl rfl)
theorem dX1_rests_43 : decode cX1_rests 43 = .ok (.aload_n 3, 1) := dk_45 (dk_at dksX1_rests_1 19 rfl rfl)
theorem dX1_rests_44 : decode cX1_rests 44 = .ok (.aload 4, 2) := dk_25 4 (dk_at dksX1_rests_1 20 rfl rfl)
theorem dX1_rests_46 : decode cX1_rests 46 = .ok (.invokevirtual 301, 3) := dk_182 1 45 (dk_at dksX1_rests_2 0 rfl rfl)
theorem dX1_rests_49 : decode cX1_rests 49 = .ok (.iconst 1, 1) := dk_4 (dk_at dksX1_rests_2 3 rfl rfl)
theorem dX1_rests_50 : decode cX1_rests 50 = .ok (.istore 6, 2) := dk_54 6 (dk_at dksX1_rests_2 4 rfl rfl)
theorem dX1_rests_52 : decode cX1_rests 52 = .ok (.iload 6, 2) := dk_21 6 (dk_at dksX1_rests_2 6 rfl rfl)
theorem dX1_rests_54 : decode cX1_rests 54 = .ok (.iload_n 1, 1) := dk_27 (dk_at dksX1_rests_2 8 rfl rfl)
theorem dX1_rests_55 : decode cX1_rests 55 = .ok (.if_icmp .gt 54, 3) := dk_163 0 54 (dk_at dksX1_rests_2 9 rfl rfl)
theorem dX1_rests_58 : decode cX1_rests 58 = .ok (.aload_n 3, 1) := dk_45 (dk_at dksX1_rests_2 12 rfl rfl)
theorem dX1_rests_59 : decode cX1_rests 59 = .ok (.iload_n 2, 1) := dk_28 (dk_at dksX1_rests_2 13 rfl rfl)
theorem dX1_rests_60 : decode cX1_rests 60 = .ok (.aload_n 0, 1) := dk_42 (dk_at dksX1_rests_2 14 rfl rfl)
theorem dX1_rests_61 : decode cX1_rests 61 = .ok (.getfield 49, 3) := dk_180 0 49 (dk_at dksX1_rests_2 15 rfl rfl)
theorem dX1_rests_64 : decode cX1_rests 64 = .ok (.aload_n 0, 1) := dk_42 (dk_at dksX1_rests_2 18 rfl rfl)
theorem dX1_rests_65 : decode cX1_rests 65 = .ok (.getfield 55, 3) := dk_180 0 55 (dk_at dksX1_rests_2 19 rfl rfl)
theorem dX1_rests_68 : decode cX1_rests 68 = .ok (.invokevirtual 305, 3) := dk_182 1 49 (dk_at dksX1_rests_3 0 rfl rfl)
theorem dX1_rests_71 : decode cX1_rests 71 = .ok (.aload_n 0, 1) := dk_42 (dk_at dksX1_rests_3 3 rfl rfl)
theorem dX1_rests_72 : decode cX1_rests 72 = .ok (.aload_n 3, 1) := dk_45 (dk_at dksX1_rests_3 4 rfl rfl)
theorem dX1_rests_73 : decode cX1_rests 73 = .ok (.aload 5, 2) := dk_25 5 (dk_at dksX1_rests_3 5 rfl rfl)
theorem dX1_rests_75 : decode cX1_rests 75 = .ok (.invokevirtual 301, 3) := dk_182 1 45 (dk_at dksX1_rests_3 7 rfl rfl)
theorem dX1_rests_78 : decode cX1_rests 78 = .ok (.aload 4, 2) := dk_25 4 (dk_at dksX1_rests_3 10 rfl rfl)
theorem dX1_rests_80 : decode cX1_rests 80 = .ok (.aload 5, 2) := dk_25 5 (dk_at dksX1_rests_3 12 rfl rfl)
theorem dX1_rests_82 : decode cX1_rests 82 = .ok (.invokestatic 308, 3) := dk_184 1 52 (dk_at dksX1_rests_3 14 rfl rfl)
theorem dX1_rests_85 : decode cX1_rests 85 = .ok (.ifCond .eq 6, 3) := dk_153 0 6 (dk_at dksX1_rests_3 17 rfl rfl)
theorem dX1_rests_88 : decode cX1_rests 88 = .ok (.iload 6, 2) := dk_21 6 (dk_at dksX1_rests_3 20 rfl rfl)
theorem dX1_rests_90 : decode cX1_rests 90 = .ok (.ireturn, 1) := dk_172 (dk_at dksX1_rests_3 22 rfl rfl)
theorem dX1_rests_91 : decode cX1_rests 91 = .ok (.aload 5, 2) := dk_25 5 (dk_at dksX1_rests_4 0 rfl rfl)
theorem dX1_rests_93 : decode cX1_rests 93 = .ok (.iconst 0, 1) := dk_3 (dk_at dksX1_rests_4 2 rfl rfl)
theorem dX1_rests_94 : decode cX1_rests 94 = .ok (.aload 4, 2) := dk_25 4 (dk_at dksX1_rests_4 3 rfl rfl)
theorem dX1_rests_96 : decode cX1_rests 96 = .ok (.iconst 0, 1) := dk_3 (dk_at dksX1_rests_4 5 rfl rfl)
theorem dX1_rests_97 : decode cX1_rests 97 = .ok (.sipush 256, 3) := dk_17 1 0 (dk_at dksX1_rests_4 6 rfl rfl)
theorem dX1_rests_100 : decode cX1_rests 100 = .ok (.invokestatic 312, 3) := dk_184 1 56 (dk_at dksX1_rests_4 9 rfl rfl)
theorem dX1_rests_103 : decode cX1_rests 103 = .ok (.iinc 6 1, 3) := dk_132 6 1 (dk_at dksX1_rests_4 12 rfl rfl)
theorem dX1_rests_106 : decode cX1_rests 106 = .ok (.goto (-54), 3) := dk_167 255 202 (dk_at dksX1_rests_4 15 rfl rfl)
theorem dX1_rests_109 : decode cX1_rests 109 = .ok (.iconst (-1), 1) := dk_2 (dk_at dksX1_rests_4 18 rfl rfl)
theorem dX1_rests_110 : decode cX1_rests 110 = .ok (.ireturn, 1) := dk_172 (dk_at dksX1_rests_4 19 rfl rfl)
abbrev cX1_isCase : ByteArray := prog_1_method_31_code
def yX1_isCase : MethodName := ⟨RX1, "isCase", "(IIII)Z"⟩
def dkwX1_isCase_0 : List UInt8 := [26, 4, 27, 184, 0, 112, 153, 0, 16, 28, 4, 29, 184, 0, 112, 153, 0, 7, 4, 167, 0, 4, 3, 172]
abbrev dktX1_isCase_0 : List UInt8 := dkwX1_isCase_0 ++ []
theorem dksX1_isCase_0 : cX1_isCase.data.toList.drop 0 = dktX1_isCase_0 := by decide +kernel
theorem dX1_isCase_0 : decode cX1_isCase 0 = .ok (.iload_n 0, 1) := dk_26 (dk_at dksX1_isCase_0 0 rfl rfl)
theorem dX1_isCase_1 : decode cX1_isCase 1 = .ok (.iconst 1, 1) := dk_4 (dk_at dksX1_isCase_0 1 rfl rfl)
theorem dX1_isCase_2 : decode cX1_isCase 2 = .ok (.iload_n 1, 1) := dk_27 (dk_at dksX1_isCase_0 2 rfl rfl)
theorem dX1_isCase_3 : decode cX1_isCase 3 = .ok (.invokestatic 112, 3) := dk_184 0 112 (dk_at dksX1_isCase_0 3 rfl rfl)
theorem dX1_isCase_6 : decode cX1_isCase 6 = .ok (.ifCond .eq 16, 3) := dk_153 0 16 (dk_at dksX1_isCase_0 6 rfl rfl)
theorem dX1_isCase_9 : decode cX1_isCase 9 = .ok (.iload_n 2, 1) := dk_28 (dk_at dksX1_isCase_0 9 rfl rfl)
theorem dX1_isCase_10 : decode cX1_isCase 10 = .ok (.iconst 1, 1) := dk_4 (dk_at dksX1_isCase_0 10 rfl rfl)
theorem dX1_isCase_11 : decode cX1_isCase 11 = .ok (.iload_n 3, 1) := dk_29 (dk_at dksX1_isCase_0 11 rfl rfl)
theorem dX1_isCase_12 : decode cX1_isCase 12 = .ok (.invokestatic 112, 3) := dk_184 0 112 (dk_at dksX1_isCase_0 12 rfl rfl)
theorem dX1_isCase_15 : decode cX1_isCase 15 = .ok (.ifCond .eq 7, 3) := dk_153 0 7 (dk_at dksX1_isCase_0 15 rfl rfl)
theorem dX1_isCase_18 : decode cX1_isCase 18 = .ok (.iconst 1, 1) := dk_4 (dk_at dksX1_isCase_0 18 rfl rfl)
theorem dX1_isCase_19 : decode cX1_isCase 19 = .ok (.goto 4, 3) := dk_167 0 4 (dk_at dksX1_isCase_0 19 rfl rfl)
theorem dX1_isCase_22 : decode cX1_isCase 22 = .ok (.iconst 0, 1) := dk_3 (dk_at dksX1_isCase_0 22 rfl rfl)
theorem dX1_isCase_23 : decode cX1_isCase 23 = .ok (.ireturn, 1) := dk_172 (dk_at dksX1_isCase_0 23 rfl rfl)
abbrev cX1_netOf : ByteArray := prog_1_method_30_code
def yX1_netOf : MethodName := ⟨RX1, "netOf", "(LGrassPark$Ground;[Z)V"⟩
def dkwX1_netOf_1 : List UInt8 := [132, 3, 1, 167, 255, 233, 177]
abbrev dktX1_netOf_1 : List UInt8 := dkwX1_netOf_1 ++ []
def dkwX1_netOf_0 : List UInt8 := [3, 62, 29, 43, 182, 0, 225, 162, 0, 21, 44, 29, 43, 42, 180, 0, 49, 29, 182, 1, 13, 84]
abbrev dktX1_netOf_0 : List UInt8 := dkwX1_netOf_0 ++ dktX1_netOf_1
theorem dksX1_netOf_0 : cX1_netOf.data.toList.drop 0 = dktX1_netOf_0 := by decide +kernel
theorem dksX1_netOf_1 : cX1_netOf.data.toList.drop 22 = dktX1_netOf_1 := dk_seg dksX1_netOf_0 22 rfl rfl
theorem dX1_netOf_0 : decode cX1_netOf 0 = .ok (.iconst 0, 1) := dk_3 (dk_at dksX1_netOf_0 0 rfl rfl)
theorem dX1_netOf_1 : decode cX1_netOf 1 = .ok (.istore_n 3, 1) := dk_62 (dk_at dksX1_netOf_0 1 rfl rfl)
theorem dX1_netOf_2 : decode cX1_netOf 2 = .ok (.iload_n 3, 1) := dk_29 (dk_at dksX1_netOf_0 2 rfl rfl)
theorem dX1_netOf_3 : decode cX1_netOf 3 = .ok (.aload_n 1, 1) := dk_43 (dk_at dksX1_netOf_0 3 rfl rfl)
theorem dX1_netOf_4 : decode cX1_netOf 4 = .ok (.invokevirtual 225, 3) := dk_182 0 225 (dk_at dksX1_netOf_0 4 rfl rfl)
theorem dX1_netOf_7 : decode cX1_netOf 7 = .ok (.if_icmp .ge 21, 3) := dk_162 0 21 (dk_at dksX1_netOf_0 7 rfl rfl)
theorem dX1_netOf_10 : decode cX1_netOf 10 = .ok (.aload_n 2, 1) := dk_44 (dk_at dksX1_netOf_0 10 rfl rfl)
theorem dX1_netOf_11 : decode cX1_netOf 11 = .ok (.iload_n 3, 1) := dk_29 (dk_at dksX1_netOf_0 11 rfl rfl)
theorem dX1_netOf_12 : decode cX1_netOf 12 = .ok (.aload_n 1, 1) := dk_43 (dk_at dksX1_netOf_0 12 rfl rfl)
theorem dX1_netOf_13 : decode cX1_netOf 13 = .ok (.aload_n 0, 1) := dk_42 (dk_at dksX1_netOf_0 13 rfl rfl)
theorem dX1_netOf_14 : decode cX1_netOf 14 = .ok (.getfield 49, 3) := dk_180 0 49 (dk_at dksX1_netOf_0 14 rfl rfl)
theorem dX1_netOf_17 : decode cX1_netOf 17 = .ok (.iload_n 3, 1) := dk_29 (dk_at dksX1_netOf_0 17 rfl rfl)
theorem dX1_netOf_18 : decode cX1_netOf 18 = .ok (.invokevirtual 269, 3) := dk_182 1 13 (dk_at dksX1_netOf_0 18 rfl rfl)
theorem dX1_netOf_21 : decode cX1_netOf 21 = .ok (.bastore, 1) := dk_84 (dk_at dksX1_netOf_0 21 rfl rfl)
theorem dX1_netOf_22 : decode cX1_netOf 22 = .ok (.iinc 3 1, 3) := dk_132 3 1 (dk_at dksX1_netOf_1 0 rfl rfl)
theorem dX1_netOf_25 : decode cX1_netOf 25 = .ok (.goto (-23), 3) := dk_167 255 233 (dk_at dksX1_netOf_1 3 rfl rfl)
theorem dX1_netOf_28 : decode cX1_netOf 28 = .ok (.return_, 1) := dk_177 (dk_at dksX1_netOf_1 6 rfl rfl)
abbrev cX1_isSame : ByteArray := prog_1_method_32_code
def yX1_isSame : MethodName := ⟨RX1, "isSame", "([Z[Z)Z"⟩
def dkwX1_isSame_1 : List UInt8 := [167, 255, 236, 4, 172]
abbrev dktX1_isSame_1 : List UInt8 := dkwX1_isSame_1 ++ []
def dkwX1_isSame_0 : List UInt8 := [3, 61, 28, 42, 190, 162, 0, 20, 42, 28, 51, 43, 28, 51, 159, 0, 5, 3, 172, 132, 2, 1]
abbrev dktX1_isSame_0 : List UInt8 := dkwX1_isSame_0 ++ dktX1_isSame_1
theorem dksX1_isSame_0 : cX1_isSame.data.toList.drop 0 = dktX1_isSame_0 := by decide +kernel
theorem dksX1_isSame_1 : cX1_isSame.data.toList.drop 22 = dktX1_isSame_1 := dk_seg dksX1_isSame_0 22 rfl rfl
theorem dX1_isSame_0 : decode cX1_isSame 0 = .ok (.iconst 0, 1) := dk_3 (dk_at dksX1_isSame_0 0 rfl rfl)
theorem dX1_isSame_1 : decode cX1_isSame 1 = .ok (.istore_n 2, 1) := dk_61 (dk_at dksX1_isSame_0 1 rfl rfl)
theorem dX1_isSame_2 : decode cX1_isSame 2 = .ok (.iload_n 2, 1) := dk_28 (dk_at dksX1_isSame_0 2 rfl rfl)
theorem dX1_isSame_3 : decode cX1_isSame 3 = .ok (.aload_n 0, 1) := dk_42 (dk_at dksX1_isSame_0 3 rfl rfl)
theorem dX1_isSame_4 : decode cX1_isSame 4 = .ok (.arraylength, 1) := dk_190 (dk_at dksX1_isSame_0 4 rfl rfl)
theorem dX1_isSame_5 : decode cX1_isSame 5 = .ok (.if_icmp .ge 20, 3) := dk_162 0 20 (dk_at dksX1_isSame_0 5 rfl rfl)
theorem dX1_isSame_8 : decode cX1_isSame 8 = .ok (.aload_n 0, 1) := dk_42 (dk_at dksX1_isSame_0 8 rfl rfl)
theorem dX1_isSame_9 : decode cX1_isSame 9 = .ok (.iload_n 2, 1) := dk_28 (dk_at dksX1_isSame_0 9 rfl rfl)
theorem dX1_isSame_10 : decode cX1_isSame 10 = .ok (.baload, 1) := dk_51 (dk_at dksX1_isSame_0 10 rfl rfl)
theorem dX1_isSame_11 : decode cX1_isSame 11 = .ok (.aload_n 1, 1) := dk_43 (dk_at dksX1_isSame_0 11 rfl rfl)
theorem dX1_isSame_12 : decode cX1_isSame 12 = .ok (.iload_n 2, 1) := dk_28 (dk_at dksX1_isSame_0 12 rfl rfl)
theorem dX1_isSame_13 : decode cX1_isSame 13 = .ok (.baload, 1) := dk_51 (dk_at dksX1_isSame_0 13 rfl rfl)
theorem dX1_isSame_14 : decode cX1_isSame 14 = .ok (.if_icmp .eq 5, 3) := dk_159 0 5 (dk_at dksX1_isSame_0 14 rfl rfl)
theorem dX1_isSame_17 : decode cX1_isSame 17 = .ok (.iconst 0, 1) := dk_3 (dk_at dksX1_isSame_0 17 rfl rfl)
theorem dX1_isSame_18 : decode cX1_isSame 18 = .ok (.ireturn, 1) := dk_172 (dk_at dksX1_isSame_0 18 rfl rfl)
theorem dX1_isSame_19 : decode cX1_isSame 19 = .ok (.iinc 2 1, 3) := dk_132 2 1 (dk_at dksX1_isSame_0 19 rfl rfl)
theorem dX1_isSame_22 : decode cX1_isSame 22 = .ok (.goto (-20), 3) := dk_167 255 236 (dk_at dksX1_isSame_1 0 rfl rfl)
theorem dX1_isSame_25 : decode cX1_isSame 25 = .ok (.iconst 1, 1) := dk_4 (dk_at dksX1_isSame_1 3 rfl rfl)
theorem dX1_isSame_26 : decode cX1_isSame 26 = .ok (.ireturn, 1) := dk_172 (dk_at dksX1_isSame_1 4 rfl rfl)
abbrev cX1_least : ByteArray := prog_1_method_35_code
def yX1_least : MethodName := ⟨RX1, "least", "()I"⟩
def dkwX1_least_13 : List UInt8 := [167, 255, 226, 29, 19, 1, 62, 161, 0, 7, 2, 167, 0, 4, 29, 172]
abbrev dktX1_least_13 : List UInt8 := dkwX1_least_13 ++ []
def dkwX1_least_12 : List UInt8 := [162, 0, 27, 29, 42, 180, 0, 65, 4, 27, 120, 4, 100, 50, 21, 4, 46, 184, 0, 234, 62, 132, 4, 1]
abbrev dktX1_least_12 : List UInt8 := dkwX1_least_12 ++ dktX1_least_13
def dkwX1_least_11 : List UInt8 := [25, 4, 182, 1, 66, 132, 3, 1, 167, 255, 74, 19, 1, 62, 62, 3, 54, 4, 21, 4, 44, 182, 0, 225]
abbrev dktX1_least_11 : List UInt8 := dkwX1_least_11 ++ dktX1_least_12
def dkwX1_least_10 : List UInt8 := [100, 184, 0, 234, 79, 132, 6, 1, 167, 255, 190, 21, 5, 4, 100, 29, 126, 54, 5, 167, 255, 171, 42]
abbrev dktX1_least_10 : List UInt8 := dkwX1_least_10 ++ dktX1_least_11
def dkwX1_least_9 : List UInt8 := [21, 6, 46, 42, 180, 0, 65, 29, 21, 5, 2, 130, 126, 50, 21, 6, 46, 96, 42, 21, 6, 182, 1, 63]
abbrev dktX1_least_9 : List UInt8 := dkwX1_least_9 ++ dktX1_least_10
def dkwX1_least_8 : List UInt8 := [21, 6, 182, 0, 143, 153, 0, 48, 25, 4, 21, 6, 25, 4, 21, 6, 46, 42, 180, 0, 65, 21, 5, 50]
abbrev dktX1_least_8 : List UInt8 := dkwX1_least_8 ++ dktX1_least_9
def dkwX1_least_7 : List UInt8 := [100, 29, 126, 54, 5, 21, 5, 158, 0, 86, 3, 54, 6, 21, 6, 44, 182, 0, 225, 162, 0, 63, 44]
abbrev dktX1_least_7 : List UInt8 := dkwX1_least_7 ++ dktX1_least_8
def dkwX1_least_6 : List UInt8 := [21, 5, 182, 0, 116, 46, 42, 44, 180, 0, 149, 42, 21, 5, 182, 0, 116, 46, 182, 1, 63, 79, 29, 4]
abbrev dktX1_least_6 : List UInt8 := dkwX1_least_6 ++ dktX1_least_7
def dkwX1_least_5 : List UInt8 := [54, 5, 29, 21, 5, 122, 4, 126, 154, 0, 9, 132, 5, 1, 167, 255, 244, 25, 4, 44, 180, 0, 149, 42]
abbrev dktX1_least_5 : List UInt8 := dkwX1_least_5 ++ dktX1_least_6
def dkwX1_least_4 : List UInt8 := [180, 0, 65, 29, 50, 58, 4, 25, 4, 19, 1, 62, 184, 0, 243, 29, 29, 4, 100, 126, 154, 0, 50, 3]
abbrev dktX1_least_4 : List UInt8 := dkwX1_least_4 ++ dktX1_least_5
def dkwX1_least_3 : List UInt8 := [167, 255, 230, 132, 2, 1, 167, 255, 202, 42, 180, 0, 39, 77, 4, 62, 29, 4, 27, 120, 162, 0, 181, 42]
abbrev dktX1_least_3 : List UInt8 := dkwX1_least_3 ++ dktX1_least_4
def dkwX1_least_2 : List UInt8 := [162, 0, 27, 42, 180, 0, 32, 29, 51, 42, 180, 0, 32, 28, 51, 160, 0, 6, 16, 254, 172, 132, 3, 1]
abbrev dktX1_least_2 : List UInt8 := dkwX1_least_2 ++ dktX1_least_3
def dkwX1_least_1 : List UInt8 := [162, 0, 55, 42, 42, 28, 182, 0, 116, 182, 0, 181, 154, 0, 6, 16, 254, 172, 3, 62, 29, 28]
abbrev dktX1_least_1 : List UInt8 := dkwX1_least_1 ++ dktX1_least_2
def dkwX1_least_0 : List UInt8 := [42, 182, 0, 109, 60, 27, 5, 16, 6, 184, 0, 112, 154, 0, 6, 16, 254, 172, 3, 61, 28, 27]
abbrev dktX1_least_0 : List UInt8 := dkwX1_least_0 ++ dktX1_least_1
theorem dksX1_least_0 : cX1_least.data.toList.drop 0 = dktX1_least_0 := by decide +kernel
theorem dksX1_least_1 : cX1_least.data.toList.drop 22 = dktX1_least_1 := dk_seg dksX1_least_0 22 rfl rfl
theorem dksX1_least_2 : cX1_least.data.toList.drop 44 = dktX1_least_2 := dk_seg dksX1_least_1 22 rfl rfl
theorem dksX1_least_3 : cX1_least.data.toList.drop 68 = dktX1_least_3 := dk_seg dksX1_least_2 24 rfl rfl
theorem dksX1_least_4 : cX1_least.data.toList.drop 92 = dktX1_least_4 := dk_seg dksX1_least_3 24 rfl rfl
theorem dksX1_least_5 : cX1_least.data.toList.drop 116 = dktX1_least_5 := dk_seg dksX1_least_4 24 rfl rfl
theorem dksX1_least_6 : cX1_least.data.toList.drop 140 = dktX1_least_6 := dk_seg dksX1_least_5 24 rfl rfl
theorem dksX1_least_7 : cX1_least.data.toList.drop 164 = dktX1_least_7 := dk_seg dksX1_least_6 24 rfl rfl
theorem dksX1_least_8 : cX1_least.data.toList.drop 187 = dktX1_least_8 := dk_seg dksX1_least_7 23 rfl rfl
theorem dksX1_least_9 : cX1_least.data.toList.drop 211 = dktX1_least_9 := dk_seg dksX1_least_8 24 rfl rfl
theorem dksX1_least_10 : cX1_least.data.toList.drop 235 = dktX1_least_10 := dk_seg dksX1_least_9 24 rfl rfl
theorem dksX1_least_11 : cX1_least.data.toList.drop 258 = dktX1_least_11 := dk_seg dksX1_least_10 23 rfl rfl
theorem dksX1_least_12 : cX1_least.data.toList.drop 282 = dktX1_least_12 := dk_seg dksX1_least_11 24 rfl rfl
theorem dksX1_least_13 : cX1_least.data.toList.drop 306 = dktX1_least_13 := dk_seg dksX1_least_12 24 rfl rfl
theorem dX1_least_0 : decode cX1_least 0 = .ok (.aload_n 0, 1) := dk_42 (dk_at dksX1_least_0 0 rfl rfl)
theorem dX1_least_1 : decode cX1_least 1 = .ok (.invokevirtual 109, 3) := dk_182 0 109 (dk_at dksX1_least_0 1 rfl rfl)
theorem dX1_least_4 : decode cX1_least 4 = .ok (.istore_n 1, 1) := dk_60 (dk_at dksX1_least_0 4 rfl rfl)
theorem dX1_least_5 : decode cX1_least 5 = .ok (.iload_n 1, 1) := dk_27 (dk_at dksX1_least_0 5 rfl rfl)
theorem dX1_least_6 : decode cX1_least 6 = .ok (.iconst 2, 1) := dk_5 (dk_at dksX1_least_0 6 rfl rfl)
theorem dX1_least_7 : decode cX1_least 7 = .ok (.bipush 6, 2) := dk_16 6 (dk_at dksX1_least_0 7 rfl rfl)
theorem dX1_least_9 : decode cX1_least 9 = .ok (.invokestatic 112, 3) := dk_184 0 112 (dk_at dksX1_least_0 9 rfl rfl)
theorem dX1_least_12 : decode cX1_least 12 = .ok (.ifCond .ne 6, 3) := dk_154 0 6 (dk_at dksX1_least_0 12 rfl rfl)
theorem dX1_least_15 : decode cX1_least 15 = .ok (.bipush (-2), 2) := dk_16 254 (dk_at dksX1_least_0 15 rfl rfl)
theorem dX1_least_17 : decode cX1_least 17 = .ok (.ireturn, 1) := dk_172 (dk_at dksX1_least_0 17 rfl rfl)
theorem dX1_least_18 : decode cX1_least 18 = .ok (.iconst 0, 1) := dk_3 (dk_at dksX1_least_0 18 rfl rfl)
theorem dX1_least_19 : decode cX1_least 19 = .ok (.istore_n 2, 1) := dk_61 (dk_at dksX1_least_0 19 rfl rfl)
theorem dX1_least_20 : decode cX1_least 20 = .ok (.iload_n 2, 1) := dk_28 (dk_at dksX1_least_0 20 rfl rfl)
theorem dX1_least_21 : decode cX1_least 21 = .ok (.iload_n 1, 1) := dk_27 (dk_at dksX1_least_0 21 rfl rfl)
theorem dX1_least_22 : decode cX1_least 22 = .ok (.if_icmp .ge 55, 3) := dk_162 0 55 (dk_at dksX1_least_1 0 rfl rfl)
theorem dX1_least_25 : decode cX1_least 25 = .ok (.aload_n 0, 1) := dk_42 (dk_at dksX1_least_1 3 rfl rfl)
theorem dX1_least_26 : decode cX1_least 26 = .ok (.aload_n 0, 1) := dk_42 (dk_at dksX1_least_1 4 rfl rfl)
theorem dX1_least_27 : decode cX1_least 27 = .ok (.iload_n 2, 1) := dk_28 (dk_at dksX1_least_1 5 rfl rfl)
theorem dX1_least_28 : decode cX1_least 28 = .ok (.invokevirtual 116, 3) := dk_182 0 116 (dk_at dksX1_least_1 6 rfl rfl)
theorem dX1_least_31 : decode cX1_least 31 = .ok (.invokevirtual 181, 3) := dk_182 0 181 (dk_at dksX1_least_1 9 rfl rfl)
theorem dX1_least_34 : decode cX1_least 34 = .ok (.ifCond .ne 6, 3) := dk_154 0 6 (dk_at dksX1_least_1 12 rfl rfl)
theorem dX1_least_37 : decode cX1_least 37 = .ok (.bipush (-2), 2) := dk_16 254 (dk_at dksX1_least_1 15 rfl rfl)
theorem dX1_least_39 : decode cX1_least 39 = .ok (.ireturn, 1) := dk_172 (dk_at dksX1_least_1 17 rfl rfl)
theorem dX1_least_40 : decode cX1_least 40 = .ok (.iconst 0, 1) := dk_3 (dk_at dksX1_least_1 18 rfl rfl)
theorem dX1_least_41 : decode cX1_least 41 = .ok (.istore_n 3, 1) := dk_62 (dk_at dksX1_least_1 19 rfl rfl)
theorem dX1_least_42 : decode cX1_least 42 = .ok (.iload_n 3, 1) := dk_29 (dk_at dksX1_least_1 20 rfl rfl)
theorem dX1_least_43 : decode cX1_least 43 = .ok (.iload_n 2, 1) := dk_28 (dk_at dksX1_least_1 21 rfl rfl)
theorem dX1_least_44 : decode cX1_least 44 = .ok (.if_icmp .ge 27, 3) := dk_162 0 27 (dk_at dksX1_least_2 0 rfl rfl)
theorem dX1_least_47 : decode cX1_least 47 = .ok (.aload_n 0, 1) := dk_42 (dk_at dksX1_least_2 3 rfl rfl)
theorem dX1_least_48 : decode cX1_least 48 = .ok (.getfield 32, 3) := dk_180 0 32 (dk_at dksX1_least_2 4 rfl rfl)
theorem dX1_least_51 : decode cX1_least 51 = .ok (.iload_n 3, 1) := dk_29 (dk_at dksX1_least_2 7 rfl rfl)
theorem dX1_least_52 : decode cX1_least 52 = .ok (.baload, 1) := dk_51 (dk_at dksX1_least_2 8 rfl rfl)
theorem dX1_least_53 : decode cX1_least 53 = .ok (.aload_n 0, 1) := dk_42 (dk_at dksX1_least_2 9 rfl rfl)
theorem dX1_least_54 : decode cX1_least 54 = .ok (.getfield 32, 3) := dk_180 0 32 (dk_at dksX1_least_2 10 rfl rfl)
theorem dX1_least_57 : decode cX1_least 57 = .ok (.iload_n 2, 1) := dk_28 (dk_at dksX1_least_2 13 rfl rfl)
theorem dX1_least_58 : decode cX1_least 58 = .ok (.baload, 1) := dk_51 (dk_at dksX1_least_2 14 rfl rfl)
theorem dX1_least_59 : decode cX1_least 59 = .ok (.if_icmp .ne 6, 3) := dk_160 0 6 (dk_at dksX1_least_2 15 rfl rfl)
theorem dX1_least_62 : decode cX1_least 62 = .ok (.bipush (-2), 2) := dk_16 254 (dk_at dksX1_least_2 18 rfl rfl)
theorem dX1_least_64 : decode cX1_least 64 = .ok (.ireturn, 1) := dk_172 (dk_at dksX1_least_2 20 rfl rfl)
theorem dX1_least_65 : decode cX1_least 65 = .ok (.iinc 3 1, 3) := dk_132 3 1 (dk_at dksX1_least_2 21 rfl rfl)
theorem dX1_least_68 : decode cX1_least 68 = .ok (.goto (-26), 3) := dk_167 255 230 (dk_at dksX1_least_3 0 rfl rfl)
theorem dX1_least_71 : decode cX1_least 71 = .ok (.iinc 2 1, 3) := dk_132 2 1 (dk_at dksX1_least_3 3 rfl rfl)
theorem dX1_least_74 : decode cX1_least 74 = .ok (.goto (-54), 3) := dk_167 255 202 (dk_at dksX1_least_3 6 rfl rfl)
theorem dX1_least_77 : decode cX1_least 77 = .ok (.aload_n 0, 1) := dk_42 (dk_at dksX1_least_3 9 rfl rfl)
theorem dX1_least_78 : decode cX1_least 78 = .ok (.getfield 39, 3) := dk_180 0 39 (dk_at dksX1_least_3 10 rfl rfl)
theorem dX1_least_81 : decode cX1_least 81 = .ok (.astore_n 2, 1) := dk_77 (dk_at dksX1_least_3 13 rfl rfl)
theorem dX1_least_82 : decode cX1_least 82 = .ok (.iconst 1, 1) := dk_4 (dk_at dksX1_least_3 14 rfl rfl)
theorem dX1_least_83 : decode cX1_least 83 = .ok (.istore_n 3, 1) := dk_62 (dk_at dksX1_least_3 15 rfl rfl)
theorem dX1_least_84 : decode cX1_least 84 = .ok (.iload_n 3, 1) := dk_29 (dk_at dksX1_least_3 16 rfl rfl)
theorem dX1_least_85 : decode cX1_least 85 = .ok (.iconst 1, 1) := dk_4 (dk_at dksX1_least_3 17 rfl rfl)
theorem dX1_least_86 : decode cX1_least 86 = .ok (.iload_n 1, 1) := dk_27 (dk_at dksX1_least_3 18 rfl rfl)
theorem dX1_least_87 : decode cX1_least 87 = .ok (.ishl, 1) := dk_120 (dk_at dksX1_least_3 19 rfl rfl)
theorem dX1_least_88 : decode cX1_least 88 = .ok (.if_icmp .ge 181, 3) := dk_162 0 181 (dk_at dksX1_least_3 20 rfl rfl)
theorem dX1_least_91 : decode cX1_least 91 = .ok (.aload_n 0, 1) := dk_42 (dk_at dksX1_least_3 23 rfl rfl)
theorem dX1_least_92 : decode cX1_least 92 = .ok (.getfield 65, 3) := dk_180 0 65 (dk_at dksX1_least_4 0 rfl rfl)
theorem dX1_least_95 : decode cX1_least 95 = .ok (.iload_n 3, 1) := dk_29 (dk_at dksX1_least_4 3 rfl rfl)
theorem dX1_least_96 : decode cX1_least 96 = .ok (.aaload, 1) := dk_50 (dk_at dksX1_least_4 4 rfl rfl)
theorem dX1_least_97 : decode cX1_least 97 = .ok (.astore 4, 2) := dk_58 4 (dk_at dksX1_least_4 5 rfl rfl)
theorem dX1_least_99 : decode cX1_least 99 = .ok (.aload 4, 2) := dk_25 4 (dk_at dksX1_least_4 7 rfl rfl)
theorem dX1_least_101 : decode cX1_least 101 = .ok (.ldc_w 318, 3) := dk_19 1 62 (dk_at dksX1_least_4 9 rfl rfl)
theorem dX1_least_104 : decode cX1_least 104 = .ok (.invokestatic 243, 3) := dk_184 0 243 (dk_at dksX1_least_4 12 rfl rfl)
theorem dX1_least_107 : decode cX1_least 107 = .ok (.iload_n 3, 1) := dk_29 (dk_at dksX1_least_4 15 rfl rfl)
theorem dX1_least_108 : decode cX1_least 108 = .ok (.iload_n 3, 1) := dk_29 (dk_at dksX1_least_4 16 rfl rfl)
theorem dX1_least_109 : decode cX1_least 109 = .ok (.iconst 1, 1) := dk_4 (dk_at dksX1_least_4 17 rfl rfl)
theorem dX1_least_110 : decode cX1_least 110 = .ok (.isub, 1) := dk_100 (dk_at dksX1_least_4 18 rfl rfl)
theorem dX1_least_111 : decode cX1_least 111 = .ok (.iand, 1) := dk_126 (dk_at dksX1_least_4 19 rfl rfl)
theorem dX1_least_112 : decode cX1_least 112 = .ok (.ifCond .ne 50, 3) := dk_154 0 50 (dk_at dksX1_least_4 20 rfl rfl)
theorem dX1_least_115 : decode cX1_least 115 = .ok (.iconst 0, 1) := dk_3 (dk_at dksX1_least_4 23 rfl rfl)
theorem dX1_least_116 : decode cX1_least 116 = .ok (.istore 5, 2) := dk_54 5 (dk_at dksX1_least_5 0 rfl rfl)
theorem dX1_least_118 : decode cX1_least 118 = .ok (.iload_n 3, 1) := dk_29 (dk_at dksX1_least_5 2 rfl rfl)
theorem dX1_least_119 : decode cX1_least 119 = .ok (.iload 5, 2) := dk_21 5 (dk_at dksX1_least_5 3 rfl rfl)
theorem dX1_least_121 : decode cX1_least 121 = .ok (.ishr, 1) := dk_122 (dk_at dksX1_least_5 5 rfl rfl)
theorem dX1_least_122 : decode cX1_least 122 = .ok (.iconst 1, 1) := dk_4 (dk_at dksX1_least_5 6 rfl rfl)
theorem dX1_least_123 : decode cX1_least 123 = .ok (.iand, 1) := dk_126 (dk_at dksX1_least_5 7 rfl rfl)
theorem dX1_least_124 : decode cX1_least 124 = .ok (.ifCond .ne 9, 3) := dk_154 0 9 (dk_at dksX1_least_5 8 rfl rfl)
theorem dX1_least_127 : decode cX1_least 127 = .ok (.iinc 5 1, 3) := dk_132 5 1 (dk_at dksX1_least_5 11 rfl rfl)
theorem dX1_least_130 : decode cX1_least 130 = .ok (.goto (-12), 3) := dk_167 255 244 (dk_at dksX1_least_5 14 rfl rfl)
theorem dX1_least_133 : decode cX1_least 133 = .ok (.aload 4, 2) := dk_25 4 (dk_at dksX1_least_5 17 rfl rfl)
theorem dX1_least_135 : decode cX1_least 135 = .ok (.aload_n 2, 1) := dk_44 (dk_at dksX1_least_5 19 rfl rfl)
theorem dX1_least_136 : decode cX1_least 136 = .ok (.getfield 149, 3) := dk_180 0 149 (dk_at dksX1_least_5 20 rfl rfl)
theorem dX1_least_139 : decode cX1_least 139 = .ok (.aload_n 0, 1) := dk_42 (dk_at dksX1_least_5 23 rfl rfl)
theorem dX1_least_140 : decode cX1_least 140 = .ok (.iload 5, 2) := dk_21 5 (dk_at dksX1_least_6 0 rfl rfl)
theorem dX1_least_142 : decode cX1_least 142 = .ok (.invokevirtual 116, 3) := dk_182 0 116 (dk_at dksX1_least_6 2 rfl rfl)
theorem dX1_least_145 : decode cX1_least 145 = .ok (.iaload, 1) := dk_46 (dk_at dksX1_least_6 5 rfl rfl)
theorem dX1_least_146 : decode cX1_least 146 = .ok (.aload_n 0, 1) := dk_42 (dk_at dksX1_least_6 6 rfl rfl)
theorem dX1_least_147 : decode cX1_least 147 = .ok (.aload_n 2, 1) := dk_44 (dk_at dksX1_least_6 7 rfl rfl)
theorem dX1_least_148 : decode cX1_least 148 = .ok (.getfield 149, 3) := dk_180 0 149 (dk_at dksX1_least_6 8 rfl rfl)
theorem dX1_least_151 : decode cX1_least 151 = .ok (.aload_n 0, 1) := dk_42 (dk_at dksX1_least_6 11 rfl rfl)
theorem dX1_least_152 : decode cX1_least 152 = .ok (.iload 5, 2) := dk_21 5 (dk_at dksX1_least_6 12 rfl rfl)
theorem dX1_least_154 : decode cX1_least 154 = .ok (.invokevirtual 116, 3) := dk_182 0 116 (dk_at dksX1_least_6 14 rfl rfl)
theorem dX1_least_157 : decode cX1_least 157 = .ok (.iaload, 1) := dk_46 (dk_at dksX1_least_6 17 rfl rfl)
theorem dX1_least_158 : decode cX1_least 158 = .ok (.invokevirtual 319, 3) := dk_182 1 63 (dk_at dksX1_least_6 18 rfl rfl)
theorem dX1_least_161 : decode cX1_least 161 = .ok (.iastore, 1) := dk_79 (dk_at dksX1_least_6 21 rfl rfl)
theorem dX1_least_162 : decode cX1_least 162 = .ok (.iload_n 3, 1) := dk_29 (dk_at dksX1_least_6 22 rfl rfl)
theorem dX1_least_163 : decode cX1_least 163 = .ok (.iconst 1, 1) := dk_4 (dk_at dksX1_least_6 23 rfl rfl)
theorem dX1_least_164 : decode cX1_least 164 = .ok (.isub, 1) := dk_100 (dk_at dksX1_least_7 0 rfl rfl)
theorem dX1_least_165 : decode cX1_least 165 = .ok (.iload_n 3, 1) := dk_29 (dk_at dksX1_least_7 1 rfl rfl)
theorem dX1_least_166 : decode cX1_least 166 = .ok (.iand, 1) := dk_126 (dk_at dksX1_least_7 2 rfl rfl)
theorem dX1_least_167 : decode cX1_least 167 = .ok (.istore 5, 2) := dk_54 5 (dk_at dksX1_least_7 3 rfl rfl)
theorem dX1_least_169 : decode cX1_least 169 = .ok (.iload 5, 2) := dk_21 5 (dk_at dksX1_least_7 5 rfl rfl)
theorem dX1_least_171 : decode cX1_least 171 = .ok (.ifCond .le 86, 3) := dk_158 0 86 (dk_at dksX1_least_7 7 rfl rfl)
theorem dX1_least_174 : decode cX1_least 174 = .ok (.iconst 0, 1) := dk_3 (dk_at dksX1_least_7 10 rfl rfl)
theorem dX1_least_175 : decode cX1_least 175 = .ok (.istore 6, 2) := dk_54 6 (dk_at dksX1_least_7 11 rfl rfl)
theorem dX1_least_177 : decode cX1_least 177 = .ok (.iload 6, 2) := dk_21 6 (dk_at dksX1_least_7 13 rfl rfl)
theorem dX1_least_179 : decode cX1_least 179 = .ok (.aload_n 2, 1) := dk_44 (dk_at dksX1_least_7 15 rfl rfl)
theorem dX1_least_180 : decode cX1_least 180 = .ok (.invokevirtual 225, 3) := dk_182 0 225 (dk_at dksX1_least_7 16 rfl rfl)
theorem dX1_least_183 : decode cX1_least 183 = .ok (.if_icmp .ge 63, 3) := dk_162 0 63 (dk_at dksX1_least_7 19 rfl rfl)
theorem dX1_least_186 : decode cX1_least 186 = .ok (.aload_n 2, 1) := dk_44 (dk_at dksX1_least_7 22 rfl rfl)
theorem dX1_least_187 : decode cX1_least 187 = .ok (.iload 6, 2) := dk_21 6 (dk_at dksX1_least_8 0 rfl rfl)
theorem dX1_least_189 : decode cX1_least 189 = .ok (.invokevirtual 143, 3) := dk_182 0 143 (dk_at dksX1_least_8 2 rfl rfl)
theorem dX1_least_192 : decode cX1_least 192 = .ok (.ifCond .eq 48, 3) := dk_153 0 48 (dk_at dksX1_least_8 5 rfl rfl)
theorem dX1_least_195 : decode cX1_least 195 = .ok (.aload 4, 2) := dk_25 4 (dk_at dksX1_least_8 8 rfl rfl)
theorem dX1_least_197 : decode cX1_least 197 = .ok (.iload 6, 2) := dk_21 6 (dk_at dksX1_least_8 10 rfl rfl)
theorem dX1_least_199 : decode cX1_least 199 = .ok (.aload 4, 2) := dk_25 4 (dk_at dksX1_least_8 12 rfl rfl)
theorem dX1_least_201 : decode cX1_least 201 = .ok (.iload 6, 2) := dk_21 6 (dk_at dksX1_least_8 14 rfl rfl)
theorem dX1_least_203 : decode cX1_least 203 = .ok (.iaload, 1) := dk_46 (dk_at dksX1_least_8 16 rfl rfl)
theorem dX1_least_204 : decode cX1_least 204 = .ok (.aload_n 0, 1) := dk_42 (dk_at dksX1_least_8 17 rfl rfl)
theorem dX1_least_205 : decode cX1_least 205 = .ok (.getfield 65, 3) := dk_180 0 65 (dk_at dksX1_least_8 18 rfl rfl)
theorem dX1_least_208 : decode cX1_least 208 = .ok (.iload 5, 2) := dk_21 5 (dk_at dksX1_least_8 21 rfl rfl)
theorem dX1_least_210 : decode cX1_least 210 = .ok (.aaload, 1) := dk_50 (dk_at dksX1_least_8 23 rfl rfl)
theorem dX1_least_211 : decode cX1_least 211 = .ok (.iload 6, 2) := dk_21 6 (dk_at dksX1_least_9 0 rfl rfl)
theorem dX1_least_213 : decode cX1_least 213 = .ok (.iaload, 1) := dk_46 (dk_at dksX1_least_9 2 rfl rfl)
theorem dX1_least_214 : decode cX1_least 214 = .ok (.aload_n 0, 1) := dk_42 (dk_at dksX1_least_9 3 rfl rfl)
theorem dX1_least_215 : decode cX1_least 215 = .ok (.getfield 65, 3) := dk_180 0 65 (dk_at dksX1_least_9 4 rfl rfl)
theorem dX1_least_218 : decode cX1_least 218 = .ok (.iload_n 3, 1) := dk_29 (dk_at dksX1_least_9 7 rfl rfl)
theorem dX1_least_219 : decode cX1_least 219 = .ok (.iload 5, 2) := dk_21 5 (dk_at dksX1_least_9 8 rfl rfl)
theorem dX1_least_221 : decode cX1_least 221 = .ok (.iconst (-1), 1) := dk_2 (dk_at dksX1_least_9 10 rfl rfl)
theorem dX1_least_222 : decode cX1_least 222 = .ok (.ixor, 1) := dk_130 (dk_at dksX1_least_9 11 rfl rfl)
theorem dX1_least_223 : decode cX1_least 223 = .ok (.iand, 1) := dk_126 (dk_at dksX1_least_9 12 rfl rfl)
theorem dX1_least_224 : decode cX1_least 224 = .ok (.aaload, 1) := dk_50 (dk_at dksX1_least_9 13 rfl rfl)
theorem dX1_least_225 : decode cX1_least 225 = .ok (.iload 6, 2) := dk_21 6 (dk_at dksX1_least_9 14 rfl rfl)
theorem dX1_least_227 : decode cX1_least 227 = .ok (.iaload, 1) := dk_46 (dk_at dksX1_least_9 16 rfl rfl)
theorem dX1_least_228 : decode cX1_least 228 = .ok (.iadd, 1) := dk_96 (dk_at dksX1_least_9 17 rfl rfl)
theorem dX1_least_229 : decode cX1_least 229 = .ok (.aload_n 0, 1) := dk_42 (dk_at dksX1_least_9 18 rfl rfl)
theorem dX1_least_230 : decode cX1_least 230 = .ok (.iload 6, 2) := dk_21 6 (dk_at dksX1_least_9 19 rfl rfl)
theorem dX1_least_232 : decode cX1_least 232 = .ok (.invokevirtual 319, 3) := dk_182 1 63 (dk_at dksX1_least_9 21 rfl rfl)
theorem dX1_least_235 : decode cX1_least 235 = .ok (.isub, 1) := dk_100 (dk_at dksX1_least_10 0 rfl rfl)
theorem dX1_least_236 : decode cX1_least 236 = .ok (.invokestatic 234, 3) := dk_184 0 234 (dk_at dksX1_least_10 1 rfl rfl)
theorem dX1_least_239 : decode cX1_least 239 = .ok (.iastore, 1) := dk_79 (dk_at dksX1_least_10 4 rfl rfl)
theorem dX1_least_240 : decode cX1_least 240 = .ok (.iinc 6 1, 3) := dk_132 6 1 (dk_at dksX1_least_10 5 rfl rfl)
theorem dX1_least_243 : decode cX1_least 243 = .ok (.goto (-66), 3) := dk_167 255 190 (dk_at dksX1_least_10 8 rfl rfl)
theorem dX1_least_246 : decode cX1_least 246 = .ok (.iload 5, 2) := dk_21 5 (dk_at dksX1_least_10 11 rfl rfl)
theorem dX1_least_248 : decode cX1_least 248 = .ok (.iconst 1, 1) := dk_4 (dk_at dksX1_least_10 13 rfl rfl)
theorem dX1_least_249 : decode cX1_least 249 = .ok (.isub, 1) := dk_100 (dk_at dksX1_least_10 14 rfl rfl)
theorem dX1_least_250 : decode cX1_least 250 = .ok (.iload_n 3, 1) := dk_29 (dk_at dksX1_least_10 15 rfl rfl)
theorem dX1_least_251 : decode cX1_least 251 = .ok (.iand, 1) := dk_126 (dk_at dksX1_least_10 16 rfl rfl)
theorem dX1_least_252 : decode cX1_least 252 = .ok (.istore 5, 2) := dk_54 5 (dk_at dksX1_least_10 17 rfl rfl)
theorem dX1_least_254 : decode cX1_least 254 = .ok (.goto (-85), 3) := dk_167 255 171 (dk_at dksX1_least_10 19 rfl rfl)
theorem dX1_least_257 : decode cX1_least 257 = .ok (.aload_n 0, 1) := dk_42 (dk_at dksX1_least_10 22 rfl rfl)
theorem dX1_least_258 : decode cX1_least 258 = .ok (.aload 4, 2) := dk_25 4 (dk_at dksX1_least_11 0 rfl rfl)
theorem dX1_least_260 : decode cX1_least 260 = .ok (.invokevirtual 322, 3) := dk_182 1 66 (dk_at dksX1_least_11 2 rfl rfl)
theorem dX1_least_263 : decode cX1_least 263 = .ok (.iinc 3 1, 3) := dk_132 3 1 (dk_at dksX1_least_11 5 rfl rfl)
theorem dX1_least_266 : decode cX1_least 266 = .ok (.goto (-182), 3) := dk_167 255 74 (dk_at dksX1_least_11 8 rfl rfl)
theorem dX1_least_269 : decode cX1_least 269 = .ok (.ldc_w 318, 3) := dk_19 1 62 (dk_at dksX1_least_11 11 rfl rfl)
theorem dX1_least_272 : decode cX1_least 272 = .ok (.istore_n 3, 1) := dk_62 (dk_at dksX1_least_11 14 rfl rfl)
theorem dX1_least_273 : decode cX1_least 273 = .ok (.iconst 0, 1) := dk_3 (dk_at dksX1_least_11 15 rfl rfl)
theorem dX1_least_274 : decode cX1_least 274 = .ok (.istore 4, 2) := dk_54 4 (dk_at dksX1_least_11 16 rfl rfl)
theorem dX1_least_276 : decode cX1_least 276 = .ok (.iload 4, 2) := dk_21 4 (dk_at dksX1_least_11 18 rfl rfl)
theorem dX1_least_278 : decode cX1_least 278 = .ok (.aload_n 2, 1) := dk_44 (dk_at dksX1_least_11 20 rfl rfl)
theorem dX1_least_279 : decode cX1_least 279 = .ok (.invokevirtual 225, 3) := dk_182 0 225 (dk_at dksX1_least_11 21 rfl rfl)
theorem dX1_least_282 : decode cX1_least 282 = .ok (.if_icmp .ge 27, 3) := dk_162 0 27 (dk_at dksX1_least_12 0 rfl rfl)
theorem dX1_least_285 : decode cX1_least 285 = .ok (.iload_n 3, 1) := dk_29 (dk_at dksX1_least_12 3 rfl rfl)
theorem dX1_least_286 : decode cX1_least 286 = .ok (.aload_n 0, 1) := dk_42 (dk_at dksX1_least_12 4 rfl rfl)
theorem dX1_least_287 : decode cX1_least 287 = .ok (.getfield 65, 3) := dk_180 0 65 (dk_at dksX1_least_12 5 rfl rfl)
theorem dX1_least_290 : decode cX1_least 290 = .ok (.iconst 1, 1) := dk_4 (dk_at dksX1_least_12 8 rfl rfl)
theorem dX1_least_291 : decode cX1_least 291 = .ok (.iload_n 1, 1) := dk_27 (dk_at dksX1_least_12 9 rfl rfl)
theorem dX1_least_292 : decode cX1_least 292 = .ok (.ishl, 1) := dk_120 (dk_at dksX1_least_12 10 rfl rfl)
theorem dX1_least_293 : decode cX1_least 293 = .ok (.iconst 1, 1) := dk_4 (dk_at dksX1_least_12 11 rfl rfl)
theorem dX1_least_294 : decode cX1_least 294 = .ok (.isub, 1) := dk_100 (dk_at dksX1_least_12 12 rfl rfl)
theorem dX1_least_295 : decode cX1_least 295 = .ok (.aaload, 1) := dk_50 (dk_at dksX1_least_12 13 rfl rfl)
theorem dX1_least_296 : decode cX1_least 296 = .ok (.iload 4, 2) := dk_21 4 (dk_at dksX1_least_12 14 rfl rfl)
theorem dX1_least_298 : decode cX1_least 298 = .ok (.iaload, 1) := dk_46 (dk_at dksX1_least_12 16 rfl rfl)
theorem dX1_least_299 : decode cX1_least 299 = .ok (.invokestatic 234, 3) := dk_184 0 234 (dk_at dksX1_least_12 17 rfl rfl)
theorem dX1_least_302 : decode cX1_least 302 = .ok (.istore_n 3, 1) := dk_62 (dk_at dksX1_least_12 20 rfl rfl)
theorem dX1_least_303 : decode cX1_least 303 = .ok (.iinc 4 1, 3) := dk_132 4 1 (dk_at dksX1_least_12 21 rfl rfl)
theorem dX1_least_306 : decode cX1_least 306 = .ok (.goto (-30), 3) := dk_167 255 226 (dk_at dksX1_least_13 0 rfl rfl)
theorem dX1_least_309 : decode cX1_least 309 = .ok (.iload_n 3, 1) := dk_29 (dk_at dksX1_least_13 3 rfl rfl)
theorem dX1_least_310 : decode cX1_least 310 = .ok (.ldc_w 318, 3) := dk_19 1 62 (dk_at dksX1_least_13 4 rfl rfl)
theorem dX1_least_313 : decode cX1_least 313 = .ok (.if_icmp .lt 7, 3) := dk_161 0 7 (dk_at dksX1_least_13 7 rfl rfl)
theorem dX1_least_316 : decode cX1_least 316 = .ok (.iconst (-1), 1) := dk_2 (dk_at dksX1_least_13 10 rfl rfl)
theorem dX1_least_317 : decode cX1_least 317 = .ok (.goto 4, 3) := dk_167 0 4 (dk_at dksX1_least_13 11 rfl rfl)
theorem dX1_least_320 : decode cX1_least 320 = .ok (.iload_n 3, 1) := dk_29 (dk_at dksX1_least_13 14 rfl rfl)
theorem dX1_least_321 : decode cX1_least 321 = .ok (.ireturn, 1) := dk_172 (dk_at dksX1_least_13 15 rfl rfl)
abbrev cX1_price : ByteArray := prog_1_method_34_code
def yX1_price : MethodName := ⟨RX1, "price", "(I)I"⟩
def dkwX1_price_0 : List UInt8 := [42, 180, 0, 39, 27, 182, 0, 228, 153, 0, 8, 16, 21, 167, 0, 4, 4, 172]
abbrev dktX1_price_0 : List UInt8 := dkwX1_price_0 ++ []
theorem dksX1_price_0 : cX1_price.data.toList.drop 0 = dktX1_price_0 := by decide +kernel
theorem dX1_price_0 : decode cX1_price 0 = .ok (.aload_n 0, 1) := dk_42 (dk_at dksX1_price_0 0 rfl rfl)
theorem dX1_price_1 : decode cX1_price 1 = .ok (.getfield 39, 3) := dk_180 0 39 (dk_at dksX1_price_0 1 rfl rfl)
theorem dX1_price_4 : decode cX1_price 4 = .ok (.iload_n 1, 1) := dk_27 (dk_at dksX1_price_0 4 rfl rfl)
theorem dX1_price_5 : decode cX1_price 5 = .ok (.invokevirtual 228, 3) := dk_182 0 228 (dk_at dksX1_price_0 5 rfl rfl)
theorem dX1_price_8 : decode cX1_price 8 = .ok (.ifCond .eq 8, 3) := dk_153 0 8 (dk_at dksX1_price_0 8 rfl rfl)
theorem dX1_price_11 : decode cX1_price 11 = .ok (.bipush 21, 2) := dk_16 21 (dk_at dksX1_price_0 11 rfl rfl)
theorem dX1_price_13 : decode cX1_price 13 = .ok (.goto 4, 3) := dk_167 0 4 (dk_at dksX1_price_0 13 rfl rfl)
theorem dX1_price_16 : decode cX1_price 16 = .ok (.iconst 1, 1) := dk_4 (dk_at dksX1_price_0 16 rfl rfl)
theorem dX1_price_17 : decode cX1_price 17 = .ok (.ireturn, 1) := dk_172 (dk_at dksX1_price_0 17 rfl rfl)
abbrev cX1_spread : ByteArray := prog_1_method_36_code
def yX1_spread : MethodName := ⟨RX1, "spread", "([I)V"⟩
def dkwX1_spread_6 : List UInt8 := [132, 5, 1, 167, 255, 199, 167, 255, 122]
abbrev dktX1_spread_6 : List UInt8 := dkwX1_spread_6 ++ []
def dkwX1_spread_5 : List UInt8 := [43, 21, 6, 43, 21, 6, 46, 43, 21, 4, 46, 42, 21, 6, 182, 1, 63, 96, 184, 0, 234, 79]
abbrev dktX1_spread_5 : List UInt8 := dkwX1_spread_5 ++ dktX1_spread_6
def dkwX1_spread_4 : List UInt8 := [21, 4, 21, 5, 182, 1, 34, 54, 6, 21, 6, 2, 159, 0, 34, 44, 21, 6, 182, 0, 143, 153, 0, 25]
abbrev dktX1_spread_4 : List UInt8 := dkwX1_spread_4 ++ dktX1_spread_5
def dkwX1_spread_3 : List UInt8 := [21, 4, 2, 160, 0, 4, 177, 45, 21, 4, 4, 84, 3, 54, 5, 21, 5, 16, 8, 162, 0, 56, 44]
abbrev dktX1_spread_3 : List UInt8 := dkwX1_spread_3 ++ dktX1_spread_4
def dkwX1_spread_2 : List UInt8 := [159, 0, 14, 43, 21, 5, 46, 43, 21, 4, 46, 162, 0, 7, 21, 5, 54, 4, 132, 5, 1, 167, 255, 206]
abbrev dktX1_spread_2 : List UInt8 := dkwX1_spread_2 ++ dktX1_spread_3
def dkwX1_spread_1 : List UInt8 := [162, 0, 47, 45, 21, 5, 51, 154, 0, 34, 43, 21, 5, 46, 19, 1, 62, 162, 0, 24, 21, 4, 2]
abbrev dktX1_spread_1 : List UInt8 := dkwX1_spread_1 ++ dktX1_spread_2
def dkwX1_spread_0 : List UInt8 := [42, 180, 0, 39, 77, 17, 1, 0, 188, 4, 78, 2, 54, 4, 3, 54, 5, 21, 5, 44, 182, 0, 225]
abbrev dktX1_spread_0 : List UInt8 := dkwX1_spread_0 ++ dktX1_spread_1
theorem dksX1_spread_0 : cX1_spread.data.toList.drop 0 = dktX1_spread_0 := by decide +kernel
theorem dksX1_spread_1 : cX1_spread.data.toList.drop 23 = dktX1_spread_1 := dk_seg dksX1_spread_0 23 rfl rfl
theorem dksX1_spread_2 : cX1_spread.data.toList.drop 46 = dktX1_spread_2 := dk_seg dksX1_spread_1 23 rfl rfl
theorem dksX1_spread_3 : cX1_spread.data.toList.drop 70 = dktX1_spread_3 := dk_seg dksX1_spread_2 24 rfl rfl
theorem dksX1_spread_4 : cX1_spread.data.toList.drop 93 = dktX1_spread_4 := dk_seg dksX1_spread_3 23 rfl rfl
theorem dksX1_spread_5 : cX1_spread.data.toList.drop 117 = dktX1_spread_5 := dk_seg dksX1_spread_4 24 rfl rfl
theorem dksX1_spread_6 : cX1_spread.data.toList.drop 139 = dktX1_spread_6 := dk_seg dksX1_spread_5 22 rfl rfl
theorem dX1_spread_0 : decode cX1_spread 0 = .ok (.aload_n 0, 1) := dk_42 (dk_at dksX1_spread_0 0 rfl rfl)
theorem dX1_spread_1 : decode cX1_spread 1 = .ok (.getfield 39, 3) := dk_180 0 39 (dk_at dksX1_spread_0 1 rfl rfl)
theorem dX1_spread_4 : decode cX1_spread 4 = .ok (.astore_n 2, 1) := dk_77 (dk_at dksX1_spread_0 4 rfl rfl)
theorem dX1_spread_5 : decode cX1_spread 5 = .ok (.sipush 256, 3) := dk_17 1 0 (dk_at dksX1_spread_0 5 rfl rfl)
theorem dX1_spread_8 : decode cX1_spread 8 = .ok (.newarray .boolean, 2) := dk_188_4 (dk_at dksX1_spread_0 8 rfl rfl)
theorem dX1_spread_10 : decode cX1_spread 10 = .ok (.astore_n 3, 1) := dk_78 (dk_at dksX1_spread_0 10 rfl rfl)
theorem dX1_spread_11 : decode cX1_spread 11 = .ok (.iconst (-1), 1) := dk_2 (dk_at dksX1_spread_0 11 rfl rfl)
theorem dX1_spread_12 : decode cX1_spread 12 = .ok (.istore 4, 2) := dk_54 4 (dk_at dksX1_spread_0 12 rfl rfl)
theorem dX1_spread_14 : decode cX1_spread 14 = .ok (.iconst 0, 1) := dk_3 (dk_at dksX1_spread_0 14 rfl rfl)
theorem dX1_spread_15 : decode cX1_spread 15 = .ok (.istore 5, 2) := dk_54 5 (dk_at dksX1_spread_0 15 rfl rfl)
theorem dX1_spread_17 : decode cX1_spread 17 = .ok (.iload 5, 2) := dk_21 5 (dk_at dksX1_spread_0 17 rfl rfl)
theorem dX1_spread_19 : decode cX1_spread 19 = .ok (.aload_n 2, 1) := dk_44 (dk_at dksX1_spread_0 19 rfl rfl)
theorem dX1_spread_20 : decode cX1_spread 20 = .ok (.invokevirtual 225, 3) := dk_182 0 225 (dk_at dksX1_spread_0 20 rfl rfl)
theorem dX1_spread_23 : decode cX1_spread 23 = .ok (.if_icmp .ge 47, 3) := dk_162 0 47 (dk_at dksX1_spread_1 0 rfl rfl)
theorem dX1_spread_26 : decode cX1_spread 26 = .ok (.aload_n 3, 1) := dk_45 (dk_at dksX1_spread_1 3 rfl rfl)
theorem dX1_spread_27 : decode cX1_spread 27 = .ok (.iload 5, 2) := dk_21 5 (dk_at dksX1_spread_1 4 rfl rfl)
theorem dX1_spread_29 : decode cX1_spread 29 = .ok (.baload, 1) := dk_51 (dk_at dksX1_spread_1 6 rfl rfl)
theorem dX1_spread_30 : decode cX1_spread 30 = .ok (.ifCond .ne 34, 3) := dk_154 0 34 (dk_at dksX1_spread_1 7 rfl rfl)
theorem dX1_spread_33 : decode cX1_spread 33 = .ok (.aload_n 1, 1) := dk_43 (dk_at dksX1_spread_1 10 rfl rfl)
theorem dX1_spread_34 : decode cX1_spread 34 = .ok (.iload 5, 2) := dk_21 5 (dk_at dksX1_spread_1 11 rfl rfl)
theorem dX1_spread_36 : decode cX1_spread 36 = .ok (.iaload, 1) := dk_46 (dk_at dksX1_spread_1 13 rfl rfl)
theorem dX1_spread_37 : decode cX1_spread 37 = .ok (.ldc_w 318, 3) := dk_19 1 62 (dk_at dksX1_spread_1 14 rfl rfl)
theorem dX1_spread_40 : decode cX1_spread 40 = .ok (.if_icmp .ge 24, 3) := dk_162 0 24 (dk_at dksX1_spread_1 17 rfl rfl)
theorem dX1_spread_43 : decode cX1_spread 43 = .ok (.iload 4, 2) := dk_21 4 (dk_at dksX1_spread_1 20 rfl rfl)
theorem dX1_spread_45 : decode cX1_spread 45 = .ok (.iconst (-1), 1) := dk_2 (dk_at dksX1_spread_1 22 rfl rfl)
theorem dX1_spread_46 : decode cX1_spread 46 = .ok (.if_icmp .eq 14, 3) := dk_159 0 14 (dk_at dksX1_spread_2 0 rfl rfl)
theorem dX1_spread_49 : decode cX1_spread 49 = .ok (.aload_n 1, 1) := dk_43 (dk_at dksX1_spread_2 3 rfl rfl)
theorem dX1_spread_50 : decode cX1_spread 50 = .ok (.iload 5, 2) := dk_21 5 (dk_at dksX1_spread_2 4 rfl rfl)
theorem dX1_spread_52 : decode cX1_spread 52 = .ok (.iaload, 1) := dk_46 (dk_at dksX1_spread_2 6 rfl rfl)
theorem dX1_spread_53 : decode cX1_spread 53 = .ok (.aload_n 1, 1) := dk_43 (dk_at dksX1_spread_2 7 rfl rfl)
theorem dX1_spread_54 : decode cX1_spread 54 = .ok (.iload 4, 2) := dk_21 4 (dk_at dksX1_spread_2 8 rfl rfl)
theorem dX1_spread_56 : decode cX1_spread 56 = .ok (.iaload, 1) := dk_46 (dk_at dksX1_spread_2 10 rfl rfl)
theorem dX1_spread_57 : decode cX1_spread 57 = .ok (.if_icmp .ge 7, 3) := dk_162 0 7 (dk_at dksX1_spread_2 11 rfl rfl)
theorem dX1_spread_60 : decode cX1_spread 60 = .ok (.iload 5, 2) := dk_21 5 (dk_at dksX1_spread_2 14 rfl rfl)
theorem dX1_spread_62 : decode cX1_spread 62 = .ok (.istore 4, 2) := dk_54 4 (dk_at dksX1_spread_2 16 rfl rfl)
theorem dX1_spread_64 : decode cX1_spread 64 = .ok (.iinc 5 1, 3) := dk_132 5 1 (dk_at dksX1_spread_2 18 rfl rfl)
theorem dX1_spread_67 : decode cX1_spread 67 = .ok (.goto (-50), 3) := dk_167 255 206 (dk_at dksX1_spread_2 21 rfl rfl)
theorem dX1_spread_70 : decode cX1_spread 70 = .ok (.iload 4, 2) := dk_21 4 (dk_at dksX1_spread_3 0 rfl rfl)
theorem dX1_spread_72 : decode cX1_spread 72 = .ok (.iconst (-1), 1) := dk_2 (dk_at dksX1_spread_3 2 rfl rfl)
theorem dX1_spread_73 : decode cX1_spread 73 = .ok (.if_icmp .ne 4, 3) := dk_160 0 4 (dk_at dksX1_spread_3 3 rfl rfl)
theorem dX1_spread_76 : decode cX1_spread 76 = .ok (.return_, 1) := dk_177 (dk_at dksX1_spread_3 6 rfl rfl)
theorem dX1_spread_77 : decode cX1_spread 77 = .ok (.aload_n 3, 1) := dk_45 (dk_at dksX1_spread_3 7 rfl rfl)
theorem dX1_spread_78 : decode cX1_spread 78 = .ok (.iload 4, 2) := dk_21 4 (dk_at dksX1_spread_3 8 rfl rfl)
theorem dX1_spread_80 : decode cX1_spread 80 = .ok (.iconst 1, 1) := dk_4 (dk_at dksX1_spread_3 10 rfl rfl)
theorem dX1_spread_81 : decode cX1_spread 81 = .ok (.bastore, 1) := dk_84 (dk_at dksX1_spread_3 11 rfl rfl)
theorem dX1_spread_82 : decode cX1_spread 82 = .ok (.iconst 0, 1) := dk_3 (dk_at dksX1_spread_3 12 rfl rfl)
theorem dX1_spread_83 : decode cX1_spread 83 = .ok (.istore 5, 2) := dk_54 5 (dk_at dksX1_spread_3 13 rfl rfl)
theorem dX1_spread_85 : decode cX1_spread 85 = .ok (.iload 5, 2) := dk_21 5 (dk_at dksX1_spread_3 15 rfl rfl)
theorem dX1_spread_87 : decode cX1_spread 87 = .ok (.bipush 8, 2) := dk_16 8 (dk_at dksX1_spread_3 17 rfl rfl)
theorem dX1_spread_89 : decode cX1_spread 89 = .ok (.if_icmp .ge 56, 3) := dk_162 0 56 (dk_at dksX1_spread_3 19 rfl rfl)
theorem dX1_spread_92 : decode cX1_spread 92 = .ok (.aload_n 2, 1) := dk_44 (dk_at dksX1_spread_3 22 rfl rfl)
theorem dX1_spread_93 : decode cX1_spread 93 = .ok (.iload 4, 2) := dk_21 4 (dk_at dksX1_spread_4 0 rfl rfl)
theorem dX1_spread_95 : decode cX1_spread 95 = .ok (.iload 5, 2) := dk_21 5 (dk_at dksX1_spread_4 2 rfl rfl)
theorem dX1_spread_97 : decode cX1_spread 97 = .ok (.invokevirtual 290, 3) := dk_182 1 34 (dk_at dksX1_spread_4 4 rfl rfl)
theorem dX1_spread_100 : decode cX1_spread 100 = .ok (.istore 6, 2) := dk_54 6 (dk_at dksX1_spread_4 7 rfl rfl)
theorem dX1_spread_102 : decode cX1_spread 102 = .ok (.iload 6, 2) := dk_21 6 (dk_at dksX1_spread_4 9 rfl rfl)
theorem dX1_spread_104 : decode cX1_spread 104 = .ok (.iconst (-1), 1) := dk_2 (dk_at dksX1_spread_4 11 rfl rfl)
theorem dX1_spread_105 : decode cX1_spread 105 = .ok (.if_icmp .eq 34, 3) := dk_159 0 34 (dk_at dksX1_spread_4 12 rfl rfl)
theorem dX1_spread_108 : decode cX1_spread 108 = .ok (.aload_n 2, 1) := dk_44 (dk_at dksX1_spread_4 15 rfl rfl)
theorem dX1_spread_109 : decode cX1_spread 109 = .ok (.iload 6, 2) := dk_21 6 (dk_at dksX1_spread_4 16 rfl rfl)
theorem dX1_spread_111 : decode cX1_spread 111 = .ok (.invokevirtual 143, 3) := dk_182 0 143 (dk_at dksX1_spread_4 18 rfl rfl)
theorem dX1_spread_114 : decode cX1_spread 114 = .ok (.ifCond .eq 25, 3) := dk_153 0 25 (dk_at dksX1_spread_4 21 rfl rfl)
theorem dX1_spread_117 : decode cX1_spread 117 = .ok (.aload_n 1, 1) := dk_43 (dk_at dksX1_spread_5 0 rfl rfl)
theorem dX1_spread_118 : decode cX1_spread 118 = .ok (.iload 6, 2) := dk_21 6 (dk_at dksX1_spread_5 1 rfl rfl)
theorem dX1_spread_120 : decode cX1_spread 120 = .ok (.aload_n 1, 1) := dk_43 (dk_at dksX1_spread_5 3 rfl rfl)
theorem dX1_spread_121 : decode cX1_spread 121 = .ok (.iload 6, 2) := dk_21 6 (dk_at dksX1_spread_5 4 rfl rfl)
theorem dX1_spread_123 : decode cX1_spread 123 = .ok (.iaload, 1) := dk_46 (dk_at dksX1_spread_5 6 rfl rfl)
theorem dX1_spread_124 : decode cX1_spread 124 = .ok (.aload_n 1, 1) := dk_43 (dk_at dksX1_spread_5 7 rfl rfl)
theorem dX1_spread_125 : decode cX1_spread 125 = .ok (.iload 4, 2) := dk_21 4 (dk_at dksX1_spread_5 8 rfl rfl)
theorem dX1_spread_127 : decode cX1_spread 127 = .ok (.iaload, 1) := dk_46 (dk_at dksX1_spread_5 10 rfl rfl)
theorem dX1_spread_128 : decode cX1_spread 128 = .ok (.aload_n 0, 1) := dk_42 (dk_at dksX1_spread_5 11 rfl rfl)
theorem dX1_spread_129 : decode cX1_spread 129 = .ok (.iload 6, 2) := dk_21 6 (dk_at dksX1_spread_5 12 rfl rfl)
theorem dX1_spread_131 : decode cX1_spread 131 = .ok (.invokevirtual 319, 3) := dk_182 1 63 (dk_at dksX1_spread_5 14 rfl rfl)
theorem dX1_spread_134 : decode cX1_spread 134 = .ok (.iadd, 1) := dk_96 (dk_at dksX1_spread_5 17 rfl rfl)
theorem dX1_spread_135 : decode cX1_spread 135 = .ok (.invokestatic 234, 3) := dk_184 0 234 (dk_at dksX1_spread_5 18 rfl rfl)
theorem dX1_spread_138 : decode cX1_spread 138 = .ok (.iastore, 1) := dk_79 (dk_at dksX1_spread_5 21 rfl rfl)
theorem dX1_spread_139 : decode cX1_spread 139 = .ok (.iinc 5 1, 3) := dk_132 5 1 (dk_at dksX1_spread_6 0 rfl rfl)
theorem dX1_spread_142 : decode cX1_spread 142 = .ok (.goto (-57), 3) := dk_167 255 199 (dk_at dksX1_spread_6 3 rfl rfl)
theorem dX1_spread_145 : decode cX1_spread 145 = .ok (.goto (-134), 3) := dk_167 255 122 (dk_at dksX1_spread_6 6 rfl rfl)
abbrev cX1_longer : ByteArray := prog_1_method_38_code
def yX1_longer : MethodName := ⟨RX1, "longer", "(II)I"⟩
def dkwX1_longer_3 : List UInt8 := [167, 0, 10, 16, 100, 21, 4, 104, 29, 108, 172]
abbrev dktX1_longer_3 : List UInt8 := dkwX1_longer_3 ++ []
def dkwX1_longer_2 : List UInt8 := [180, 0, 39, 180, 0, 149, 28, 46, 4, 182, 1, 70, 54, 4, 21, 4, 19, 1, 62, 161, 0, 7, 2]
abbrev dktX1_longer_2 : List UInt8 := dkwX1_longer_2 ++ dktX1_longer_3
def dkwX1_longer_1 : List UInt8 := [180, 0, 39, 180, 0, 149, 28, 46, 3, 182, 1, 70, 62, 42, 42, 180, 0, 39, 180, 0, 149, 27, 46, 42]
abbrev dktX1_longer_1 : List UInt8 := dkwX1_longer_1 ++ dktX1_longer_2
def dkwX1_longer_0 : List UInt8 := [42, 27, 28, 182, 0, 186, 154, 0, 6, 16, 254, 172, 42, 42, 180, 0, 39, 180, 0, 149, 27, 46, 42]
abbrev dktX1_longer_0 : List UInt8 := dkwX1_longer_0 ++ dktX1_longer_1
theorem dksX1_longer_0 : cX1_longer.data.toList.drop 0 = dktX1_longer_0 := by decide +kernel
theorem dksX1_longer_1 : cX1_longer.data.toList.drop 23 = dktX1_longer_1 := dk_seg dksX1_longer_0 23 rfl rfl
theorem dksX1_longer_2 : cX1_longer.data.toList.drop 47 = dktX1_longer_2 := dk_seg dksX1_longer_1 24 rfl rfl
theorem dksX1_longer_3 : cX1_longer.data.toList.drop 70 = dktX1_longer_3 := dk_seg dksX1_longer_2 23 rfl rfl
theorem dX1_longer_0 : decode cX1_longer 0 = .ok (.aload_n 0, 1) := dk_42 (dk_at dksX1_longer_0 0 rfl rfl)
theorem dX1_longer_1 : decode cX1_longer 1 = .ok (.iload_n 1, 1) := dk_27 (dk_at dksX1_longer_0 1 rfl rfl)
theorem dX1_longer_2 : decode cX1_longer 2 = .ok (.iload_n 2, 1) := dk_28 (dk_at dksX1_longer_0 2 rfl rfl)
theorem dX1_longer_3 : decode cX1_longer 3 = .ok (.invokevirtual 186, 3) := dk_182 0 186 (dk_at dksX1_longer_0 3 rfl rfl)
theorem dX1_longer_6 : decode cX1_longer 6 = .ok (.ifCond .ne 6, 3) := dk_154 0 6 (dk_at dksX1_longer_0 6 rfl rfl)
theorem dX1_longer_9 : decode cX1_longer 9 = .ok (.bipush (-2), 2) := dk_16 254 (dk_at dksX1_longer_0 9 rfl rfl)
theorem dX1_longer_11 : decode cX1_longer 11 = .ok (.ireturn, 1) := dk_172 (dk_at dksX1_longer_0 11 rfl rfl)
theorem dX1_longer_12 : decode cX1_longer 12 = .ok (.aload_n 0, 1) := dk_42 (dk_at dksX1_longer_0 12 rfl rfl)
theorem dX1_longer_13 : decode cX1_longer 13 = .ok (.aload_n 0, 1) := dk_42 (dk_at dksX1_longer_0 13 rfl rfl)
theorem dX1_longer_14 : decode cX1_longer 14 = .ok (.getfield 39, 3) := dk_180 0 39 (dk_at dksX1_longer_0 14 rfl rfl)
theorem dX1_longer_17 : decode cX1_longer 17 = .ok (.getfield 149, 3) := dk_180 0 149 (dk_at dksX1_longer_0 17 rfl rfl)
theorem dX1_longer_20 : decode cX1_longer 20 = .ok (.iload_n 1, 1) := dk_27 (dk_at dksX1_longer_0 20 rfl rfl)
theorem dX1_longer_21 : decode cX1_longer 21 = .ok (.iaload, 1) := dk_46 (dk_at dksX1_longer_0 21 rfl rfl)
theorem dX1_longer_22 : decode cX1_longer 22 = .ok (.aload_n 0, 1) := dk_42 (dk_at dksX1_longer_0 22 rfl rfl)
theorem dX1_longer_23 : decode cX1_longer 23 = .ok (.getfield 39, 3) := dk_180 0 39 (dk_at dksX1_longer_1 0 rfl rfl)
theorem dX1_longer_26 : decode cX1_longer 26 = .ok (.getfield 149, 3) := dk_180 0 149 (dk_at dksX1_longer_1 3 rfl rfl)
theorem dX1_longer_29 : decode cX1_longer 29 = .ok (.iload_n 2, 1) := dk_28 (dk_at dksX1_longer_1 6 rfl rfl)
theorem dX1_longer_30 : decode cX1_longer 30 = .ok (.iaload, 1) := dk_46 (dk_at dksX1_longer_1 7 rfl rfl)
theorem dX1_longer_31 : decode cX1_longer 31 = .ok (.iconst 0, 1) := dk_3 (dk_at dksX1_longer_1 8 rfl rfl)
theorem dX1_longer_32 : decode cX1_longer 32 = .ok (.invokevirtual 326, 3) := dk_182 1 70 (dk_at dksX1_longer_1 9 rfl rfl)
theorem dX1_longer_35 : decode cX1_longer 35 = .ok (.istore_n 3, 1) := dk_62 (dk_at dksX1_longer_1 12 rfl rfl)
theorem dX1_longer_36 : decode cX1_longer 36 = .ok (.aload_n 0, 1) := dk_42 (dk_at dksX1_longer_1 13 rfl rfl)
theorem dX1_longer_37 : decode cX1_longer 37 = .ok (.aload_n 0, 1) := dk_42 (dk_at dksX1_longer_1 14 rfl rfl)
theorem dX1_longer_38 : decode cX1_longer 38 = .ok (.getfield 39, 3) := dk_180 0 39 (dk_at dksX1_longer_1 15 rfl rfl)
theorem dX1_longer_41 : decode cX1_longer 41 = .ok (.getfield 149, 3) := dk_180 0 149 (dk_at dksX1_longer_1 18 rfl rfl)
theorem dX1_longer_44 : decode cX1_longer 44 = .ok (.iload_n 1, 1) := dk_27 (dk_at dksX1_longer_1 21 rfl rfl)
theorem dX1_longer_45 : decode cX1_longer 45 = .ok (.iaload, 1) := dk_46 (dk_at dksX1_longer_1 22 rfl rfl)
theorem dX1_longer_46 : decode cX1_longer 46 = .ok (.aload_n 0, 1) := dk_42 (dk_at dksX1_longer_1 23 rfl rfl)
theorem dX1_longer_47 : decode cX1_longer 47 = .ok (.getfield 39, 3) := dk_180 0 39 (dk_at dksX1_longer_2 0 rfl rfl)
theorem dX1_longer_50 : decode cX1_longer 50 = .ok (.getfield 149, 3) := dk_180 0 149 (dk_at dksX1_longer_2 3 rfl rfl)
theorem dX1_longer_53 : decode cX1_longer 53 = .ok (.iload_n 2, 1) := dk_28 (dk_at dksX1_longer_2 6 rfl rfl)
theorem dX1_longer_54 : decode cX1_longer 54 = .ok (.iaload, 1) := dk_46 (dk_at dksX1_longer_2 7 rfl rfl)
theorem dX1_longer_55 : decode cX1_longer 55 = .ok (.iconst 1, 1) := dk_4 (dk_at dksX1_longer_2 8 rfl rfl)
theorem dX1_longer_56 : decode cX1_longer 56 = .ok (.invokevirtual 326, 3) := dk_182 1 70 (dk_at dksX1_longer_2 9 rfl rfl)
theorem dX1_longer_59 : decode cX1_longer 59 = .ok (.istore 4, 2) := dk_54 4 (dk_at dksX1_longer_2 12 rfl rfl)
theorem dX1_longer_61 : decode cX1_longer 61 = .ok (.iload 4, 2) := dk_21 4 (dk_at dksX1_longer_2 14 rfl rfl)
theorem dX1_longer_63 : decode cX1_longer 63 = .ok (.ldc_w 318, 3) := dk_19 1 62 (dk_at dksX1_longer_2 16 rfl rfl)
theorem dX1_longer_66 : decode cX1_longer 66 = .ok (.if_icmp .lt 7, 3) := dk_161 0 7 (dk_at dksX1_longer_2 19 rfl rfl)
theorem dX1_longer_69 : decode cX1_longer 69 = .ok (.iconst (-1), 1) := dk_2 (dk_at dksX1_longer_2 22 rfl rfl)
theorem dX1_longer_70 : decode cX1_longer 70 = .ok (.goto 10, 3) := dk_167 0 10 (dk_at dksX1_longer_3 0 rfl rfl)
theorem dX1_longer_73 : decode cX1_longer 73 = .ok (.bipush 100, 2) := dk_16 100 (dk_at dksX1_longer_3 3 rfl rfl)
theorem dX1_longer_75 : decode cX1_longer 75 = .ok (.iload 4, 2) := dk_21 4 (dk_at dksX1_longer_3 5 rfl rfl)
theorem dX1_longer_77 : decode cX1_longer 77 = .ok (.imul, 1) := dk_104 (dk_at dksX1_longer_3 7 rfl rfl)
theorem dX1_longer_78 : decode cX1_longer 78 = .ok (.iload_n 3, 1) := dk_29 (dk_at dksX1_longer_3 8 rfl rfl)
theorem dX1_longer_79 : decode cX1_longer 79 = .ok (.idiv, 1) := dk_108 (dk_at dksX1_longer_3 9 rfl rfl)
theorem dX1_longer_80 : decode cX1_longer 80 = .ok (.ireturn, 1) := dk_172 (dk_at dksX1_longer_3 10 rfl rfl)
abbrev cX1_shortest : ByteArray := prog_1_method_37_code
def yX1_shortest : MethodName := ⟨RX1, "shortest", "(IIZ)I"⟩
def dkwX1_shortest_9 : List UInt8 := [154, 0, 8, 16, 10, 167, 0, 5, 16, 14, 96, 184, 0, 234, 79, 132, 8, 1, 167, 255, 149, 167, 255, 56]
abbrev dktX1_shortest_9 : List UInt8 := dkwX1_shortest_9 ++ []
def dkwX1_shortest_8 : List UInt8 := [159, 0, 6, 167, 0, 36, 25, 5, 21, 9, 25, 5, 21, 9, 46, 25, 5, 21, 7, 46, 21, 8, 5, 112]
abbrev dktX1_shortest_8 : List UInt8 := dkwX1_shortest_8 ++ dktX1_shortest_9
def dkwX1_shortest_7 : List UInt8 := [182, 0, 228, 153, 0, 26, 25, 4, 42, 180, 0, 49, 21, 9, 182, 1, 13, 154, 0, 12, 21, 9, 28]
abbrev dktX1_shortest_7 : List UInt8 := dkwX1_shortest_7 ++ dktX1_shortest_8
def dkwX1_shortest_6 : List UInt8 := [21, 9, 2, 159, 0, 83, 25, 4, 21, 9, 182, 0, 143, 153, 0, 73, 29, 153, 0, 36, 25, 4, 21, 9]
abbrev dktX1_shortest_6 : List UInt8 := dkwX1_shortest_6 ++ dktX1_shortest_7
def dkwX1_shortest_5 : List UInt8 := [4, 84, 3, 54, 8, 21, 8, 16, 8, 162, 0, 106, 25, 4, 21, 7, 21, 8, 182, 1, 34, 54, 9]
abbrev dktX1_shortest_5 : List UInt8 := dkwX1_shortest_5 ++ dktX1_shortest_6
def dkwX1_shortest_4 : List UInt8 := [167, 255, 201, 21, 7, 2, 159, 0, 9, 21, 7, 28, 160, 0, 8, 25, 5, 28, 46, 172, 25, 6, 21, 7]
abbrev dktX1_shortest_4 : List UInt8 := dkwX1_shortest_4 ++ dktX1_shortest_5
def dkwX1_shortest_3 : List UInt8 := [2, 159, 0, 16, 25, 5, 21, 8, 46, 25, 5, 21, 7, 46, 162, 0, 7, 21, 8, 54, 7, 132, 8, 1]
abbrev dktX1_shortest_3 : List UInt8 := dkwX1_shortest_3 ++ dktX1_shortest_4
def dkwX1_shortest_2 : List UInt8 := [162, 0, 51, 25, 6, 21, 8, 51, 154, 0, 37, 25, 5, 21, 8, 46, 19, 1, 62, 162, 0, 26, 21, 7]
abbrev dktX1_shortest_2 : List UInt8 := dkwX1_shortest_2 ++ dktX1_shortest_3
def dkwX1_shortest_1 : List UInt8 := [19, 1, 62, 184, 0, 243, 25, 5, 27, 3, 79, 2, 54, 7, 3, 54, 8, 21, 8, 25, 4, 182, 0, 225]
abbrev dktX1_shortest_1 : List UInt8 := dkwX1_shortest_1 ++ dktX1_shortest_2
def dkwX1_shortest_0 : List UInt8 := [42, 180, 0, 39, 58, 4, 17, 1, 0, 188, 10, 58, 5, 17, 1, 0, 188, 4, 58, 6, 25, 5]
abbrev dktX1_shortest_0 : List UInt8 := dkwX1_shortest_0 ++ dktX1_shortest_1
theorem dksX1_shortest_0 : cX1_shortest.data.toList.drop 0 = dktX1_shortest_0 := by decide +kernel
theorem dksX1_shortest_1 : cX1_shortest.data.toList.drop 22 = dktX1_shortest_1 := dk_seg dksX1_shortest_0 22 rfl rfl
theorem dksX1_shortest_2 : cX1_shortest.data.toList.drop 46 = dktX1_shortest_2 := dk_seg dksX1_shortest_1 24 rfl rfl
theorem dksX1_shortest_3 : cX1_shortest.data.toList.drop 70 = dktX1_shortest_3 := dk_seg dksX1_shortest_2 24 rfl rfl
theorem dksX1_shortest_4 : cX1_shortest.data.toList.drop 94 = dktX1_shortest_4 := dk_seg dksX1_shortest_3 24 rfl rfl
theorem dksX1_shortest_5 : cX1_shortest.data.toList.drop 118 = dktX1_shortest_5 := dk_seg dksX1_shortest_4 24 rfl rfl
theorem dksX1_shortest_6 : cX1_shortest.data.toList.drop 141 = dktX1_shortest_6 := dk_seg dksX1_shortest_5 23 rfl rfl
theorem dksX1_shortest_7 : cX1_shortest.data.toList.drop 165 = dktX1_shortest_7 := dk_seg dksX1_shortest_6 24 rfl rfl
theorem dksX1_shortest_8 : cX1_shortest.data.toList.drop 188 = dktX1_shortest_8 := dk_seg dksX1_shortest_7 23 rfl rfl
theorem dksX1_shortest_9 : cX1_shortest.data.toList.drop 212 = dktX1_shortest_9 := dk_seg dksX1_shortest_8 24 rfl rfl
theorem dX1_shortest_0 : decode cX1_shortest 0 = .ok (.aload_n 0, 1) := dk_42 (dk_at dksX1_shortest_0 0 rfl rfl)
theorem dX1_shortest_1 : decode cX1_shortest 1 = .ok (.getfield 39, 3) := dk_180 0 39 (dk_at dksX1_shortest_0 1 rfl rfl)
theorem dX1_shortest_4 : decode cX1_shortest 4 = .ok (.astore 4, 2) := dk_58 4 (dk_at dksX1_shortest_0 4 rfl rfl)
theorem dX1_shortest_6 : decode cX1_shortest 6 = .ok (.sipush 256, 3) := dk_17 1 0 (dk_at dksX1_shortest_0 6 rfl rfl)
theorem dX1_shortest_9 : decode cX1_shortest 9 = .ok (.newarray .int, 2) := dk_188_10 (dk_at dksX1_shortest_0 9 rfl rfl)
theorem dX1_shortest_11 : decode cX1_shortest 11 = .ok (.astore 5, 2) := dk_58 5 (dk_at dksX1_shortest_0 11 rfl rfl)
theorem dX1_shortest_13 : decode cX1_shortest 13 = .ok (.sipush 256, 3) := dk_17 1 0 (dk_at dksX1_shortest_0 13 rfl rfl)
theorem dX1_shortest_16 : decode cX1_shortest 16 = .ok (.newarray .boolean, 2) := dk_188_4 (dk_at dksX1_shortest_0 16 rfl rfl)
theorem dX1_shortest_18 : decode cX1_shortest 18 = .ok (.astore 6, 2) := dk_58 6 (dk_at dksX1_shortest_0 18 rfl rfl)
theorem dX1_shortest_20 : decode cX1_shortest 20 = .ok (.aload 5, 2) := dk_25 5 (dk_at dksX1_shortest_0 20 rfl rfl)
theorem dX1_shortest_22 : decode cX1_shortest 22 = .ok (.ldc_w 318, 3) := dk_19 1 62 (dk_at dksX1_shortest_1 0 rfl rfl)
theorem dX1_shortest_25 : decode cX1_shortest 25 = .ok (.invokestatic 243, 3) := dk_184 0 243 (dk_at dksX1_shortest_1 3 rfl rfl)
theorem dX1_shortest_28 : decode cX1_shortest 28 = .ok (.aload 5, 2) := dk_25 5 (dk_at dksX1_shortest_1 6 rfl rfl)
theorem dX1_shortest_30 : decode cX1_shortest 30 = .ok (.iload_n 1, 1) := dk_27 (dk_at dksX1_shortest_1 8 rfl rfl)
theorem dX1_shortest_31 : decode cX1_shortest 31 = .ok (.iconst 0, 1) := dk_3 (dk_at dksX1_shortest_1 9 rfl rfl)
theorem dX1_shortest_32 : decode cX1_shortest 32 = .ok (.iastore, 1) := dk_79 (dk_at dksX1_shortest_1 10 rfl rfl)
theorem dX1_shortest_33 : decode cX1_shortest 33 = .ok (.iconst (-1), 1) := dk_2 (dk_at dksX1_shortest_1 11 rfl rfl)
theorem dX1_shortest_34 : decode cX1_shortest 34 = .ok (.istore 7, 2) := dk_54 7 (dk_at dksX1_shortest_1 12 rfl rfl)
theorem dX1_shortest_36 : decode cX1_shortest 36 = .ok (.iconst 0, 1) := dk_3 (dk_at dksX1_shortest_1 14 rfl rfl)
theorem dX1_shortest_37 : decode cX1_shortest 37 = .ok (.istore 8, 2) := dk_54 8 (dk_at dksX1_shortest_1 15 rfl rfl)
theorem dX1_shortest_39 : decode cX1_shortest 39 = .ok (.iload 8, 2) := dk_21 8 (dk_at dksX1_shortest_1 17 rfl rfl)
theorem dX1_shortest_41 : decode cX1_shortest 41 = .ok (.aload 4, 2) := dk_25 4 (dk_at dksX1_shortest_1 19 rfl rfl)
theorem dX1_shortest_43 : decode cX1_shortest 43 = .ok (.invokevirtual 225, 3) := dk_182 0 225 (dk_at dksX1_shortest_1 21 rfl rfl)
theorem dX1_shortest_46 : decode cX1_shortest 46 = .ok (.if_icmp .ge 51, 3) := dk_162 0 51 (dk_at dksX1_shortest_2 0 rfl rfl)
theorem dX1_shortest_49 : decode cX1_shortest 49 = .ok (.aload 6, 2) := dk_25 6 (dk_at dksX1_shortest_2 3 rfl rfl)
theorem dX1_shortest_51 : decode cX1_shortest 51 = .ok (.iload 8, 2) := dk_21 8 (dk_at dksX1_shortest_2 5 rfl rfl)
theorem dX1_shortest_53 : decode cX1_shortest 53 = .ok (.baload, 1) := dk_51 (dk_at dksX1_shortest_2 7 rfl rfl)
theorem dX1_shortest_54 : decode cX1_shortest 54 = .ok (.ifCond .ne 37, 3) := dk_154 0 37 (dk_at dksX1_shortest_2 8 rfl rfl)
theorem dX1_shortest_57 : decode cX1_shortest 57 = .ok (.aload 5, 2) := dk_25 5 (dk_at dksX1_shortest_2 11 rfl rfl)
theorem dX1_shortest_59 : decode cX1_shortest 59 = .ok (.iload 8, 2) := dk_21 8 (dk_at dksX1_shortest_2 13 rfl rfl)
theorem dX1_shortest_61 : decode cX1_shortest 61 = .ok (.iaload, 1) := dk_46 (dk_at dksX1_shortest_2 15 rfl rfl)
theorem dX1_shortest_62 : decode cX1_shortest 62 = .ok (.ldc_w 318, 3) := dk_19 1 62 (dk_at dksX1_shortest_2 16 rfl rfl)
theorem dX1_shortest_65 : decode cX1_shortest 65 = .ok (.if_icmp .ge 26, 3) := dk_162 0 26 (dk_at dksX1_shortest_2 19 rfl rfl)
theorem dX1_shortest_68 : decode cX1_shortest 68 = .ok (.iload 7, 2) := dk_21 7 (dk_at dksX1_shortest_2 22 rfl rfl)
theorem dX1_shortest_70 : decode cX1_shortest 70 = .ok (.iconst (-1), 1) := dk_2 (dk_at dksX1_shortest_3 0 rfl rfl)
theorem dX1_shortest_71 : decode cX1_shortest 71 = .ok (.if_icmp .eq 16, 3) := dk_159 0 16 (dk_at dksX1_shortest_3 1 rfl rfl)
theorem dX1_shortest_74 : decode cX1_shortest 74 = .ok (.aload 5, 2) := dk_25 5 (dk_at dksX1_shortest_3 4 rfl rfl)
theorem dX1_shortest_76 : decode cX1_shortest 76 = .ok (.iload 8, 2) := dk_21 8 (dk_at dksX1_shortest_3 6 rfl rfl)
theorem dX1_shortest_78 : decode cX1_shortest 78 = .ok (.iaload, 1) := dk_46 (dk_at dksX1_shortest_3 8 rfl rfl)
theorem dX1_shortest_79 : decode cX1_shortest 79 = .ok (.aload 5, 2) := dk_25 5 (dk_at dksX1_shortest_3 9 rfl rfl)
theorem dX1_shortest_81 : decode cX1_shortest 81 = .ok (.iload 7, 2) := dk_21 7 (dk_at dksX1_shortest_3 11 rfl rfl)
theorem dX1_shortest_83 : decode cX1_shortest 83 = .ok (.iaload, 1) := dk_46 (dk_at dksX1_shortest_3 13 rfl rfl)
theorem dX1_shortest_84 : decode cX1_shortest 84 = .ok (.if_icmp .ge 7, 3) := dk_162 0 7 (dk_at dksX1_shortest_3 14 rfl rfl)
theorem dX1_shortest_87 : decode cX1_shortest 87 = .ok (.iload 8, 2) := dk_21 8 (dk_at dksX1_shortest_3 17 rfl rfl)
theorem dX1_shortest_89 : decode cX1_shortest 89 = .ok (.istore 7, 2) := dk_54 7 (dk_at dksX1_shortest_3 19 rfl rfl)
theorem dX1_shortest_91 : decode cX1_shortest 91 = .ok (.iinc 8 1, 3) := dk_132 8 1 (dk_at dksX1_shortest_3 21 rfl rfl)
theorem dX1_shortest_94 : decode cX1_shortest 94 = .ok (.goto (-55), 3) := dk_167 255 201 (dk_at dksX1_shortest_4 0 rfl rfl)
theorem dX1_shortest_97 : decode cX1_shortest 97 = .ok (.iload 7, 2) := dk_21 7 (dk_at dksX1_shortest_4 3 rfl rfl)
theorem dX1_shortest_99 : decode cX1_shortest 99 = .ok (.iconst (-1), 1) := dk_2 (dk_at dksX1_shortest_4 5 rfl rfl)
theorem dX1_shortest_100 : decode cX1_shortest 100 = .ok (.if_icmp .eq 9, 3) := dk_159 0 9 (dk_at dksX1_shortest_4 6 rfl rfl)
theorem dX1_shortest_103 : decode cX1_shortest 103 = .ok (.iload 7, 2) := dk_21 7 (dk_at dksX1_shortest_4 9 rfl rfl)
theorem dX1_shortest_105 : decode cX1_shortest 105 = .ok (.iload_n 2, 1) := dk_28 (dk_at dksX1_shortest_4 11 rfl rfl)
theorem dX1_shortest_106 : decode cX1_shortest 106 = .ok (.if_icmp .ne 8, 3) := dk_160 0 8 (dk_at dksX1_shortest_4 12 rfl rfl)
theorem dX1_shortest_109 : decode cX1_shortest 109 = .ok (.aload 5, 2) := dk_25 5 (dk_at dksX1_shortest_4 15 rfl rfl)
theorem dX1_shortest_111 : decode cX1_shortest 111 = .ok (.iload_n 2, 1) := dk_28 (dk_at dksX1_shortest_4 17 rfl rfl)
theorem dX1_shortest_112 : decode cX1_shortest 112 = .ok (.iaload, 1) := dk_46 (dk_at dksX1_shortest_4 18 rfl rfl)
theorem dX1_shortest_113 : decode cX1_shortest 113 = .ok (.ireturn, 1) := dk_172 (dk_at dksX1_shortest_4 19 rfl rfl)
theorem dX1_shortest_114 : decode cX1_shortest 114 = .ok (.aload 6, 2) := dk_25 6 (dk_at dksX1_shortest_4 20 rfl rfl)
theorem dX1_shortest_116 : decode cX1_shortest 116 = .ok (.iload 7, 2) := dk_21 7 (dk_at dksX1_shortest_4 22 rfl rfl)
theorem dX1_shortest_118 : decode cX1_shortest 118 = .ok (.iconst 1, 1) := dk_4 (dk_at dksX1_shortest_5 0 rfl rfl)
theorem dX1_shortest_119 : decode cX1_shortest 119 = .ok (.bastore, 1) := dk_84 (dk_at dksX1_shortest_5 1 rfl rfl)
theorem dX1_shortest_120 : decode cX1_shortest 120 = .ok (.iconst 0, 1) := dk_3 (dk_at dksX1_shortest_5 2 rfl rfl)
theorem dX1_shortest_121 : decode cX1_shortest 121 = .ok (.istore 8, 2) := dk_54 8 (dk_at dksX1_shortest_5 3 rfl rfl)
theorem dX1_shortest_123 : decode cX1_shortest 123 = .ok (.iload 8, 2) := dk_21 8 (dk_at dksX1_shortest_5 5 rfl rfl)
theorem dX1_shortest_125 : decode cX1_shortest 125 = .ok (.bipush 8, 2) := dk_16 8 (dk_at dksX1_shortest_5 7 rfl rfl)
theorem dX1_shortest_127 : decode cX1_shortest 127 = .ok (.if_icmp .ge 106, 3) := dk_162 0 106 (dk_at dksX1_shortest_5 9 rfl rfl)
theorem dX1_shortest_130 : decode cX1_shortest 130 = .ok (.aload 4, 2) := dk_25 4 (dk_at dksX1_shortest_5 12 rfl rfl)
theorem dX1_shortest_132 : decode cX1_shortest 132 = .ok (.iload 7, 2) := dk_21 7 (dk_at dksX1_shortest_5 14 rfl rfl)
theorem dX1_shortest_134 : decode cX1_shortest 134 = .ok (.iload 8, 2) := dk_21 8 (dk_at dksX1_shortest_5 16 rfl rfl)
theorem dX1_shortest_136 : decode cX1_shortest 136 = .ok (.invokevirtual 290, 3) := dk_182 1 34 (dk_at dksX1_shortest_5 18 rfl rfl)
theorem dX1_shortest_139 : decode cX1_shortest 139 = .ok (.istore 9, 2) := dk_54 9 (dk_at dksX1_shortest_5 21 rfl rfl)
theorem dX1_shortest_141 : decode cX1_shortest 141 = .ok (.iload 9, 2) := dk_21 9 (dk_at dksX1_shortest_6 0 rfl rfl)
theorem dX1_shortest_143 : decode cX1_shortest 143 = .ok (.iconst (-1), 1) := dk_2 (dk_at dksX1_shortest_6 2 rfl rfl)
theorem dX1_shortest_144 : decode cX1_shortest 144 = .ok (.if_icmp .eq 83, 3) := dk_159 0 83 (dk_at dksX1_shortest_6 3 rfl rfl)
theorem dX1_shortest_147 : decode cX1_shortest 147 = .ok (.aload 4, 2) := dk_25 4 (dk_at dksX1_shortest_6 6 rfl rfl)
theorem dX1_shortest_149 : decode cX1_shortest 149 = .ok (.iload 9, 2) := dk_21 9 (dk_at dksX1_shortest_6 8 rfl rfl)
theorem dX1_shortest_151 : decode cX1_shortest 151 = .ok (.invokevirtual 143, 3) := dk_182 0 143 (dk_at dksX1_shortest_6 10 rfl rfl)
theorem dX1_shortest_154 : decode cX1_shortest 154 = .ok (.ifCond .eq 73, 3) := dk_153 0 73 (dk_at dksX1_shortest_6 13 rfl rfl)
theorem dX1_shortest_157 : decode cX1_shortest 157 = .ok (.iload_n 3, 1) := dk_29 (dk_at dksX1_shortest_6 16 rfl rfl)
theorem dX1_shortest_158 : decode cX1_shortest 158 = .ok (.ifCond .eq 36, 3) := dk_153 0 36 (dk_at dksX1_shortest_6 17 rfl rfl)
theorem dX1_shortest_161 : decode cX1_shortest 161 = .ok (.aload 4, 2) := dk_25 4 (dk_at dksX1_shortest_6 20 rfl rfl)
theorem dX1_shortest_163 : decode cX1_shortest 163 = .ok (.iload 9, 2) := dk_21 9 (dk_at dksX1_shortest_6 22 rfl rfl)
theorem dX1_shortest_165 : decode cX1_shortest 165 = .ok (.invokevirtual 228, 3) := dk_182 0 228 (dk_at dksX1_shortest_7 0 rfl rfl)
theorem dX1_shortest_168 : decode cX1_shortest 168 = .ok (.ifCond .eq 26, 3) := dk_153 0 26 (dk_at dksX1_shortest_7 3 rfl rfl)
theorem dX1_shortest_171 : decode cX1_shortest 171 = .ok (.aload 4, 2) := dk_25 4 (dk_at dksX1_shortest_7 6 rfl rfl)
theorem dX1_shortest_173 : decode cX1_shortest 173 = .ok (.aload_n 0, 1) := dk_42 (dk_at dksX1_shortest_7 8 rfl rfl)
theorem dX1_shortest_174 : decode cX1_shortest 174 = .ok (.getfield 49, 3) := dk_180 0 49 (dk_at dksX1_shortest_7 9 rfl rfl)
theorem dX1_shortest_177 : decode cX1_shortest 177 = .ok (.iload 9, 2) := dk_21 9 (dk_at dksX1_shortest_7 12 rfl rfl)
theorem dX1_shortest_179 : decode cX1_shortest 179 = .ok (.invokevirtual 269, 3) := dk_182 1 13 (dk_at dksX1_shortest_7 14 rfl rfl)
theorem dX1_shortest_182 : decode cX1_shortest 182 = .ok (.ifCond .ne 12, 3) := dk_154 0 12 (dk_at dksX1_shortest_7 17 rfl rfl)
theorem dX1_shortest_185 : decode cX1_shortest 185 = .ok (.iload 9, 2) := dk_21 9 (dk_at dksX1_shortest_7 20 rfl rfl)
theorem dX1_shortest_187 : decode cX1_shortest 187 = .ok (.iload_n 2, 1) := dk_28 (dk_at dksX1_shortest_7 22 rfl rfl)
theorem dX1_shortest_188 : decode cX1_shortest 188 = .ok (.if_icmp .eq 6, 3) := dk_159 0 6 (dk_at dksX1_shortest_8 0 rfl rfl)
theorem dX1_shortest_191 : decode cX1_shortest 191 = .ok (.goto 36, 3) := dk_167 0 36 (dk_at dksX1_shortest_8 3 rfl rfl)
theorem dX1_shortest_194 : decode cX1_shortest 194 = .ok (.aload 5, 2) := dk_25 5 (dk_at dksX1_shortest_8 6 rfl rfl)
theorem dX1_shortest_196 : decode cX1_shortest 196 = .ok (.iload 9, 2) := dk_21 9 (dk_at dksX1_shortest_8 8 rfl rfl)
theorem dX1_shortest_198 : decode cX1_shortest 198 = .ok (.aload 5, 2) := dk_25 5 (dk_at dksX1_shortest_8 10 rfl rfl)
theorem dX1_shortest_200 : decode cX1_shortest 200 = .ok (.iload 9, 2) := dk_21 9 (dk_at dksX1_shortest_8 12 rfl rfl)
theorem dX1_shortest_202 : decode cX1_shortest 202 = .ok (.iaload, 1) := dk_46 (dk_at dksX1_shortest_8 14 rfl rfl)
theorem dX1_shortest_203 : decode cX1_shortest 203 = .ok (.aload 5, 2) := dk_25 5 (dk_at dksX1_shortest_8 15 rfl rfl)
theorem dX1_shortest_205 : decode cX1_shortest 205 = .ok (.iload 7, 2) := dk_21 7 (dk_at dksX1_shortest_8 17 rfl rfl)
theorem dX1_shortest_207 : decode cX1_shortest 207 = .ok (.iaload, 1) := dk_46 (dk_at dksX1_shortest_8 19 rfl rfl)
theorem dX1_shortest_208 : decode cX1_shortest 208 = .ok (.iload 8, 2) := dk_21 8 (dk_at dksX1_shortest_8 20 rfl rfl)
theorem dX1_shortest_210 : decode cX1_shortest 210 = .ok (.iconst 2, 1) := dk_5 (dk_at dksX1_shortest_8 22 rfl rfl)
theorem dX1_shortest_211 : decode cX1_shortest 211 = .ok (.irem, 1) := dk_112 (dk_at dksX1_shortest_8 23 rfl rfl)
theorem dX1_shortest_212 : decode cX1_shortest 212 = .ok (.ifCond .ne 8, 3) := dk_154 0 8 (dk_at dksX1_shortest_9 0 rfl rfl)
theorem dX1_shortest_215 : decode cX1_shortest 215 = .ok (.bipush 10, 2) := dk_16 10 (dk_at dksX1_shortest_9 3 rfl rfl)
theorem dX1_shortest_217 : decode cX1_shortest 217 = .ok (.goto 5, 3) := dk_167 0 5 (dk_at dksX1_shortest_9 5 rfl rfl)
theorem dX1_shortest_220 : decode cX1_shortest 220 = .ok (.bipush 14, 2) := dk_16 14 (dk_at dksX1_shortest_9 8 rfl rfl)
theorem dX1_shortest_222 : decode cX1_shortest 222 = .ok (.iadd, 1) := dk_96 (dk_at dksX1_shortest_9 10 rfl rfl)
theorem dX1_shortest_223 : decode cX1_shortest 223 = .ok (.invokestatic 234, 3) := dk_184 0 234 (dk_at dksX1_shortest_9 11 rfl rfl)
theorem dX1_shortest_226 : decode cX1_shortest 226 = .ok (.iastore, 1) := dk_79 (dk_at dksX1_shortest_9 14 rfl rfl)
theorem dX1_shortest_227 : decode cX1_shortest 227 = .ok (.iinc 8 1, 3) := dk_132 8 1 (dk_at dksX1_shortest_9 15 rfl rfl)
theorem dX1_shortest_230 : decode cX1_shortest 230 = .ok (.goto (-107), 3) := dk_167 255 149 (dk_at dksX1_shortest_9 18 rfl rfl)
theorem dX1_shortest_233 : decode cX1_shortest 233 = .ok (.goto (-200), 3) := dk_167 255 56 (dk_at dksX1_shortest_9 21 rfl rfl)
abbrev cX1_turns : ByteArray := prog_1_method_39_code
def yX1_turns : MethodName := ⟨RX1, "turns", "(IIII)I"⟩
def dkwX1_turns_5 : List UInt8 := [180, 0, 49, 182, 0, 221, 21, 4, 163, 0, 6, 21, 6, 172, 132, 6, 1, 167, 255, 165, 2, 172]
abbrev dktX1_turns_5 : List UInt8 := dkwX1_turns_5 ++ []
def dkwX1_turns_4 : List UInt8 := [162, 0, 21, 25, 7, 29, 42, 180, 0, 49, 25, 5, 182, 1, 49, 132, 8, 1, 167, 255, 235, 25, 7, 42]
abbrev dktX1_turns_4 : List UInt8 := dkwX1_turns_4 ++ dktX1_turns_5
def dkwX1_turns_3 : List UInt8 := [199, 0, 5, 2, 172, 42, 180, 0, 39, 42, 180, 0, 43, 182, 1, 41, 58, 7, 3, 54, 8, 21, 8, 28]
abbrev dktX1_turns_3 : List UInt8 := dkwX1_turns_3 ++ dktX1_turns_4
def dkwX1_turns_2 : List UInt8 := [16, 9, 163, 0, 90, 25, 5, 27, 42, 180, 0, 55, 27, 50, 21, 6, 182, 1, 74, 83, 25, 5, 27, 50]
abbrev dktX1_turns_2 : List UInt8 := dkwX1_turns_2 ++ dktX1_turns_3
def dkwX1_turns_1 : List UInt8 := [189, 0, 53, 58, 5, 42, 180, 0, 55, 3, 25, 5, 3, 16, 6, 184, 1, 56, 3, 54, 6, 21, 6]
abbrev dktX1_turns_1 : List UInt8 := dkwX1_turns_1 ++ dktX1_turns_2
def dkwX1_turns_0 : List UInt8 := [27, 184, 0, 174, 153, 0, 14, 28, 7, 29, 16, 100, 184, 1, 37, 154, 0, 6, 16, 254, 172, 16, 6]
abbrev dktX1_turns_0 : List UInt8 := dkwX1_turns_0 ++ dktX1_turns_1
theorem dksX1_turns_0 : cX1_turns.data.toList.drop 0 = dktX1_turns_0 := by decide +kernel
theorem dksX1_turns_1 : cX1_turns.data.toList.drop 23 = dktX1_turns_1 := dk_seg dksX1_turns_0 23 rfl rfl
theorem dksX1_turns_2 : cX1_turns.data.toList.drop 46 = dktX1_turns_2 := dk_seg dksX1_turns_1 23 rfl rfl
theorem dksX1_turns_3 : cX1_turns.data.toList.drop 70 = dktX1_turns_3 := dk_seg dksX1_turns_2 24 rfl rfl
theorem dksX1_turns_4 : cX1_turns.data.toList.drop 94 = dktX1_turns_4 := dk_seg dksX1_turns_3 24 rfl rfl
theorem dksX1_turns_5 : cX1_turns.data.toList.drop 118 = dktX1_turns_5 := dk_seg dksX1_turns_4 24 rfl rfl
theorem dX1_turns_0 : decode cX1_turns 0 = .ok (.iload_n 1, 1) := dk_27 (dk_at dksX1_turns_0 0 rfl rfl)
theorem dX1_turns_1 : decode cX1_turns 1 = .ok (.invokestatic 174, 3) := dk_184 0 174 (dk_at dksX1_turns_0 1 rfl rfl)
theorem dX1_turns_4 : decode cX1_turns 4 = .ok (.ifCond .eq 14, 3) := dk_153 0 14 (dk_at dksX1_turns_0 4 rfl rfl)
theorem dX1_turns_7 : decode cX1_turns 7 = .ok (.iload_n 2, 1) := dk_28 (dk_at dksX1_turns_0 7 rfl rfl)
theorem dX1_turns_8 : decode cX1_turns 8 = .ok (.iconst 4, 1) := dk_7 (dk_at dksX1_turns_0 8 rfl rfl)
theorem dX1_turns_9 : decode cX1_turns 9 = .ok (.iload_n 3, 1) := dk_29 (dk_at dksX1_turns_0 9 rfl rfl)
theorem dX1_turns_10 : decode cX1_turns 10 = .ok (.bipush 100, 2) := dk_16 100 (dk_at dksX1_turns_0 10 rfl rfl)
theorem dX1_turns_12 : decode cX1_turns 12 = .ok (.invokestatic 293, 3) := dk_184 1 37 (dk_at dksX1_turns_0 12 rfl rfl)
theorem dX1_turns_15 : decode cX1_turns 15 = .ok (.ifCond .ne 6, 3) := dk_154 0 6 (dk_at dksX1_turns_0 15 rfl rfl)
theorem dX1_turns_18 : decode cX1_turns 18 = .ok (.bipush (-2), 2) := dk_16 254 (dk_at dksX1_turns_0 18 rfl rfl)
theorem dX1_turns_20 : decode cX1_turns 20 = .ok (.ireturn, 1) := dk_172 (dk_at dksX1_turns_0 20 rfl rfl)
theorem dX1_turns_21 : decode cX1_turns 21 = .ok (.bipush 6, 2) := dk_16 6 (dk_at dksX1_turns_0 21 rfl rfl)
theorem dX1_turns_23 : decode cX1_turns 23 = .ok (.anewarray 53, 3) := dk_189 0 53 (dk_at dksX1_turns_1 0 rfl rfl)
theorem dX1_turns_26 : decode cX1_turns 26 = .ok (.astore 5, 2) := dk_58 5 (dk_at dksX1_turns_1 3 rfl rfl)
theorem dX1_turns_28 : decode cX1_turns 28 = .ok (.aload_n 0, 1) := dk_42 (dk_at dksX1_turns_1 5 rfl rfl)
theorem dX1_turns_29 : decode cX1_turns 29 = .ok (.getfield 55, 3) := dk_180 0 55 (dk_at dksX1_turns_1 6 rfl rfl)
theorem dX1_turns_32 : decode cX1_turns 32 = .ok (.iconst 0, 1) := dk_3 (dk_at dksX1_turns_1 9 rfl rfl)
theorem dX1_turns_33 : decode cX1_turns 33 = .ok (.aload 5, 2) := dk_25 5 (dk_at dksX1_turns_1 10 rfl rfl)
theorem dX1_turns_35 : decode cX1_turns 35 = .ok (.iconst 0, 1) := dk_3 (dk_at dksX1_turns_1 12 rfl rfl)
theorem dX1_turns_36 : decode cX1_turns 36 = .ok (.bipush 6, 2) := dk_16 6 (dk_at dksX1_turns_1 13 rfl rfl)
theorem dX1_turns_38 : decode cX1_turns 38 = .ok (.invokestatic 312, 3) := dk_184 1 56 (dk_at dksX1_turns_1 15 rfl rfl)
theorem dX1_turns_41 : decode cX1_turns 41 = .ok (.iconst 0, 1) := dk_3 (dk_at dksX1_turns_1 18 rfl rfl)
theorem dX1_turns_42 : decode cX1_turns 42 = .ok (.istore 6, 2) := dk_54 6 (dk_at dksX1_turns_1 19 rfl rfl)
theorem dX1_turns_44 : decode cX1_turns 44 = .ok (.iload 6, 2) := dk_21 6 (dk_at dksX1_turns_1 21 rfl rfl)
theorem dX1_turns_46 : decode cX1_turns 46 = .ok (.bipush 9, 2) := dk_16 9 (dk_at dksX1_turns_2 0 rfl rfl)
theorem dX1_turns_48 : decode cX1_turns 48 = .ok (.if_icmp .gt 90, 3) := dk_163 0 90 (dk_at dksX1_turns_2 2 rfl rfl)
theorem dX1_turns_51 : decode cX1_turns 51 = .ok (.aload 5, 2) := dk_25 5 (dk_at dksX1_turns_2 5 rfl rfl)
theorem dX1_turns_53 : decode cX1_turns 53 = .ok (.iload_n 1, 1) := dk_27 (dk_at dksX1_turns_2 7 rfl rfl)
theorem dX1_turns_54 : decode cX1_turns 54 = .ok (.aload_n 0, 1) := dk_42 (dk_at dksX1_turns_2 8 rfl rfl)
theorem dX1_turns_55 : decode cX1_turns 55 = .ok (.getfield 55, 3) := dk_180 0 55 (dk_at dksX1_turns_2 9 rfl rfl)
theorem dX1_turns_58 : decode cX1_turns 58 = .ok (.iload_n 1, 1) := dk_27 (dk_at dksX1_turns_2 12 rfl rfl)
theorem dX1_turns_59 : decode cX1_turns 59 = .ok (.aaload, 1) := dk_50 (dk_at dksX1_turns_2 13 rfl rfl)
theorem dX1_turns_60 : decode cX1_turns 60 = .ok (.iload 6, 2) := dk_21 6 (dk_at dksX1_turns_2 14 rfl rfl)
theorem dX1_turns_62 : decode cX1_turns 62 = .ok (.invokevirtual 330, 3) := dk_182 1 74 (dk_at dksX1_turns_2 16 rfl rfl)
theorem dX1_turns_65 : decode cX1_turns 65 = .ok (.aastore, 1) := dk_83 (dk_at dksX1_turns_2 19 rfl rfl)
theorem dX1_turns_66 : decode cX1_turns 66 = .ok (.aload 5, 2) := dk_25 5 (dk_at dksX1_turns_2 20 rfl rfl)
theorem dX1_turns_68 : decode cX1_turns 68 = .ok (.iload_n 1, 1) := dk_27 (dk_at dksX1_turns_2 22 rfl rfl)
theorem dX1_turns_69 : decode cX1_turns 69 = .ok (.aaload, 1) := dk_50 (dk_at dksX1_turns_2 23 rfl rfl)
theorem dX1_turns_70 : decode cX1_turns 70 = .ok (.ifnonnull 5, 3) := dk_199 0 5 (dk_at dksX1_turns_3 0 rfl rfl)
theorem dX1_turns_73 : decode cX1_turns 73 = .ok (.iconst (-1), 1) := dk_2 (dk_at dksX1_turns_3 3 rfl rfl)
theorem dX1_turns_74 : decode cX1_turns 74 = .ok (.ireturn, 1) := dk_172 (dk_at dksX1_turns_3 4 rfl rfl)
theorem dX1_turns_75 : decode cX1_turns 75 = .ok (.aload_n 0, 1) := dk_42 (dk_at dksX1_turns_3 5 rfl rfl)
theorem dX1_turns_76 : decode cX1_turns 76 = .ok (.getfield 39, 3) := dk_180 0 39 (dk_at dksX1_turns_3 6 rfl rfl)
theorem dX1_turns_79 : decode cX1_turns 79 = .ok (.aload_n 0, 1) := dk_42 (dk_at dksX1_turns_3 9 rfl rfl)
theorem dX1_turns_80 : decode cX1_turns 80 = .ok (.getfield 43, 3) := dk_180 0 43 (dk_at dksX1_turns_3 10 rfl rfl)
theorem dX1_turns_83 : decode cX1_turns 83 = .ok (.invokevirtual 297, 3) := dk_182 1 41 (dk_at dksX1_turns_3 13 rfl rfl)
theorem dX1_turns_86 : decode cX1_turns 86 = .ok (.astore 7, 2) := dk_58 7 (dk_at dksX1_turns_3 16 rfl rfl)
theorem dX1_turns_88 : decode cX1_turns 88 = .ok (.iconst 0, 1) := dk_3 (dk_at dksX1_turns_3 18 rfl rfl)
theorem dX1_turns_89 : decode cX1_turns 89 = .ok (.istore 8, 2) := dk_54 8 (dk_at dksX1_turns_3 19 rfl rfl)
theorem dX1_turns_91 : decode cX1_turns 91 = .ok (.iload 8, 2) := dk_21 8 (dk_at dksX1_turns_3 21 rfl rfl)
theorem dX1_turns_93 : decode cX1_turns 93 = .ok (.iload_n 2, 1) := dk_28 (dk_at dksX1_turns_3 23 rfl rfl)
theorem dX1_turns_94 : decode cX1_turns 94 = .ok (.if_icmp .ge 21, 3) := dk_162 0 21 (dk_at dksX1_turns_4 0 rfl rfl)
theorem dX1_turns_97 : decode cX1_turns 97 = .ok (.aload 7, 2) := dk_25 7 (dk_at dksX1_turns_4 3 rfl rfl)
theorem dX1_turns_99 : decode cX1_turns 99 = .ok (.iload_n 3, 1) := dk_29 (dk_at dksX1_turns_4 5 rfl rfl)
theorem dX1_turns_100 : decode cX1_turns 100 = .ok (.aload_n 0, 1) := dk_42 (dk_at dksX1_turns_4 6 rfl rfl)
theorem dX1_turns_101 : decode cX1_turns 101 = .ok (.getfield 49, 3) := dk_180 0 49 (dk_at dksX1_turns_4 7 rfl rfl)
theorem dX1_turns_104 : decode cX1_turns 104 = .ok (.aload 5, 2) := dk_25 5 (dk_at dksX1_turns_4 10 rfl rfl)
theorem dX1_turns_106 : decode cX1_turns 106 = .ok (.invokevirtual 305, 3) := dk_182 1 49 (dk_at dksX1_turns_4 12 rfl rfl)
theorem dX1_turns_109 : decode cX1_turns 109 = .ok (.iinc 8 1, 3) := dk_132 8 1 (dk_at dksX1_turns_4 15 rfl rfl)
theorem dX1_turns_112 : decode cX1_turns 112 = .ok (.goto (-21), 3) := dk_167 255 235 (dk_at dksX1_turns_4 18 rfl rfl)
theorem dX1_turns_115 : decode cX1_turns 115 = .ok (.aload 7, 2) := dk_25 7 (dk_at dksX1_turns_4 21 rfl rfl)
theorem dX1_turns_117 : decode cX1_turns 117 = .ok (.aload_n 0, 1) := dk_42 (dk_at dksX1_turns_4 23 rfl rfl)
theorem dX1_turns_118 : decode cX1_turns 118 = .ok (.getfield 49, 3) := dk_180 0 49 (dk_at dksX1_turns_5 0 rfl rfl)
theorem dX1_turns_121 : decode cX1_turns 121 = .ok (.invokevirtual 221, 3) := dk_182 0 221 (dk_at dksX1_turns_5 3 rfl rfl)
theorem dX1_turns_124 : decode cX1_turns 124 = .ok (.iload 4, 2) := dk_21 4 (dk_at dksX1_turns_5 6 rfl rfl)
theorem dX1_turns_126 : decode cX1_turns 126 = .ok (.if_icmp .gt 6, 3) := dk_163 0 6 (dk_at dksX1_turns_5 8 rfl rfl)
theorem dX1_turns_129 : decode cX1_turns 129 = .ok (.iload 6, 2) := dk_21 6 (dk_at dksX1_turns_5 11 rfl rfl)
theorem dX1_turns_131 : decode cX1_turns 131 = .ok (.ireturn, 1) := dk_172 (dk_at dksX1_turns_5 13 rfl rfl)
theorem dX1_turns_132 : decode cX1_turns 132 = .ok (.iinc 6 1, 3) := dk_132 6 1 (dk_at dksX1_turns_5 14 rfl rfl)
theorem dX1_turns_135 : decode cX1_turns 135 = .ok (.goto (-91), 3) := dk_167 255 165 (dk_at dksX1_turns_5 17 rfl rfl)
theorem dX1_turns_138 : decode cX1_turns 138 = .ok (.iconst (-1), 1) := dk_2 (dk_at dksX1_turns_5 20 rfl rfl)
theorem dX1_turns_139 : decode cX1_turns 139 = .ok (.ireturn, 1) := dk_172 (dk_at dksX1_turns_5 21 rfl rfl)
abbrev cX1_paved : ByteArray := prog_1_method_42_code
def yX1_paved : MethodName := ⟨RX1, "paved", "(IIII)I"⟩
def dkwX1_paved_4 : List UInt8 := [153, 0, 6, 132, 5, 1, 132, 6, 1, 167, 255, 226, 21, 5, 172]
abbrev dktX1_paved_4 : List UInt8 := dkwX1_paved_4 ++ []
def dkwX1_paved_3 : List UInt8 := [54, 6, 21, 6, 42, 180, 0, 39, 182, 0, 225, 162, 0, 24, 42, 180, 0, 70, 27, 50, 21, 6, 51]
abbrev dktX1_paved_3 : List UInt8 := dkwX1_paved_3 ++ dktX1_paved_4
def dkwX1_paved_2 : List UInt8 := [160, 0, 12, 42, 27, 28, 182, 1, 81, 167, 0, 9, 42, 28, 27, 182, 1, 81, 172, 3, 54, 5, 3]
abbrev dktX1_paved_2 : List UInt8 := dkwX1_paved_2 ++ dktX1_paved_3
def dkwX1_paved_1 : List UInt8 := [3, 5, 184, 0, 112, 154, 0, 5, 2, 172, 42, 28, 29, 182, 1, 78, 21, 4, 158, 0, 25, 21, 4, 4]
abbrev dktX1_paved_1 : List UInt8 := dkwX1_paved_1 ++ dktX1_paved_2
def dkwX1_paved_0 : List UInt8 := [28, 16, 20, 29, 17, 0, 200, 184, 1, 37, 153, 0, 22, 27, 4, 28, 184, 0, 112, 153, 0, 13, 21, 4]
abbrev dktX1_paved_0 : List UInt8 := dkwX1_paved_0 ++ dktX1_paved_1
theorem dksX1_paved_0 : cX1_paved.data.toList.drop 0 = dktX1_paved_0 := by decide +kernel
theorem dksX1_paved_1 : cX1_paved.data.toList.drop 24 = dktX1_paved_1 := dk_seg dksX1_paved_0 24 rfl rfl
theorem dksX1_paved_2 : cX1_paved.data.toList.drop 48 = dktX1_paved_2 := dk_seg dksX1_paved_1 24 rfl rfl
theorem dksX1_paved_3 : cX1_paved.data.toList.drop 71 = dktX1_paved_3 := dk_seg dksX1_paved_2 23 rfl rfl
theorem dksX1_paved_4 : cX1_paved.data.toList.drop 94 = dktX1_paved_4 := dk_seg dksX1_paved_3 23 rfl rfl
theorem dX1_paved_0 : decode cX1_paved 0 = .ok (.iload_n 2, 1) := dk_28 (dk_at dksX1_paved_0 0 rfl rfl)
theorem dX1_paved_1 : decode cX1_paved 1 = .ok (.bipush 20, 2) := dk_16 20 (dk_at dksX1_paved_0 1 rfl rfl)
theorem dX1_paved_3 : decode cX1_paved 3 = .ok (.iload_n 3, 1) := dk_29 (dk_at dksX1_paved_0 3 rfl rfl)
theorem dX1_paved_4 : decode cX1_paved 4 = .ok (.sipush 200, 3) := dk_17 0 200 (dk_at dksX1_paved_0 4 rfl rfl)
theorem dX1_paved_7 : decode cX1_paved 7 = .ok (.invokestatic 293, 3) := dk_184 1 37 (dk_at dksX1_paved_0 7 rfl rfl)
theorem dX1_paved_10 : decode cX1_paved 10 = .ok (.ifCond .eq 22, 3) := dk_153 0 22 (dk_at dksX1_paved_0 10 rfl rfl)
theorem dX1_paved_13 : decode cX1_paved 13 = .ok (.iload_n 1, 1) := dk_27 (dk_at dksX1_paved_0 13 rfl rfl)
theorem dX1_paved_14 : decode cX1_paved 14 = .ok (.iconst 1, 1) := dk_4 (dk_at dksX1_paved_0 14 rfl rfl)
theorem dX1_paved_15 : decode cX1_paved 15 = .ok (.iload_n 2, 1) := dk_28 (dk_at dksX1_paved_0 15 rfl rfl)
theorem dX1_paved_16 : decode cX1_paved 16 = .ok (.invokestatic 112, 3) := dk_184 0 112 (dk_at dksX1_paved_0 16 rfl rfl)
theorem dX1_paved_19 : decode cX1_paved 19 = .ok (.ifCond .eq 13, 3) := dk_153 0 13 (dk_at dksX1_paved_0 19 rfl rfl)
theorem dX1_paved_22 : decode cX1_paved 22 = .ok (.iload 4, 2) := dk_21 4 (dk_at dksX1_paved_0 22 rfl rfl)
theorem dX1_paved_24 : decode cX1_paved 24 = .ok (.iconst 0, 1) := dk_3 (dk_at dksX1_paved_1 0 rfl rfl)
theorem dX1_paved_25 : decode cX1_paved 25 = .ok (.iconst 2, 1) := dk_5 (dk_at dksX1_paved_1 1 rfl rfl)
theorem dX1_paved_26 : decode cX1_paved 26 = .ok (.invokestatic 112, 3) := dk_184 0 112 (dk_at dksX1_paved_1 2 rfl rfl)
theorem dX1_paved_29 : decode cX1_paved 29 = .ok (.ifCond .ne 5, 3) := dk_154 0 5 (dk_at dksX1_paved_1 5 rfl rfl)
theorem dX1_paved_32 : decode cX1_paved 32 = .ok (.iconst (-1), 1) := dk_2 (dk_at dksX1_paved_1 8 rfl rfl)
theorem dX1_paved_33 : decode cX1_paved 33 = .ok (.ireturn, 1) := dk_172 (dk_at dksX1_paved_1 9 rfl rfl)
theorem dX1_paved_34 : decode cX1_paved 34 = .ok (.aload_n 0, 1) := dk_42 (dk_at dksX1_paved_1 10 rfl rfl)
theorem dX1_paved_35 : decode cX1_paved 35 = .ok (.iload_n 2, 1) := dk_28 (dk_at dksX1_paved_1 11 rfl rfl)
theorem dX1_paved_36 : decode cX1_paved 36 = .ok (.iload_n 3, 1) := dk_29 (dk_at dksX1_paved_1 12 rfl rfl)
theorem dX1_paved_37 : decode cX1_paved 37 = .ok (.invokevirtual 334, 3) := dk_182 1 78 (dk_at dksX1_paved_1 13 rfl rfl)
theorem dX1_paved_40 : decode cX1_paved 40 = .ok (.iload 4, 2) := dk_21 4 (dk_at dksX1_paved_1 16 rfl rfl)
theorem dX1_paved_42 : decode cX1_paved 42 = .ok (.ifCond .le 25, 3) := dk_158 0 25 (dk_at dksX1_paved_1 18 rfl rfl)
theorem dX1_paved_45 : decode cX1_paved 45 = .ok (.iload 4, 2) := dk_21 4 (dk_at dksX1_paved_1 21 rfl rfl)
theorem dX1_paved_47 : decode cX1_paved 47 = .ok (.iconst 1, 1) := dk_4 (dk_at dksX1_paved_1 23 rfl rfl)
theorem dX1_paved_48 : decode cX1_paved 48 = .ok (.if_icmp .ne 12, 3) := dk_160 0 12 (dk_at dksX1_paved_2 0 rfl rfl)
theorem dX1_paved_51 : decode cX1_paved 51 = .ok (.aload_n 0, 1) := dk_42 (dk_at dksX1_paved_2 3 rfl rfl)
theorem dX1_paved_52 : decode cX1_paved 52 = .ok (.iload_n 1, 1) := dk_27 (dk_at dksX1_paved_2 4 rfl rfl)
theorem dX1_paved_53 : decode cX1_paved 53 = .ok (.iload_n 2, 1) := dk_28 (dk_at dksX1_paved_2 5 rfl rfl)
theorem dX1_paved_54 : decode cX1_paved 54 = .ok (.invokevirtual 337, 3) := dk_182 1 81 (dk_at dksX1_paved_2 6 rfl rfl)
theorem dX1_paved_57 : decode cX1_paved 57 = .ok (.goto 9, 3) := dk_167 0 9 (dk_at dksX1_paved_2 9 rfl rfl)
theorem dX1_paved_60 : decode cX1_paved 60 = .ok (.aload_n 0, 1) := dk_42 (dk_at dksX1_paved_2 12 rfl rfl)
theorem dX1_paved_61 : decode cX1_paved 61 = .ok (.iload_n 2, 1) := dk_28 (dk_at dksX1_paved_2 13 rfl rfl)
theorem dX1_paved_62 : decode cX1_paved 62 = .ok (.iload_n 1, 1) := dk_27 (dk_at dksX1_paved_2 14 rfl rfl)
theorem dX1_paved_63 : decode cX1_paved 63 = .ok (.invokevirtual 337, 3) := dk_182 1 81 (dk_at dksX1_paved_2 15 rfl rfl)
theorem dX1_paved_66 : decode cX1_paved 66 = .ok (.ireturn, 1) := dk_172 (dk_at dksX1_paved_2 18 rfl rfl)
theorem dX1_paved_67 : decode cX1_paved 67 = .ok (.iconst 0, 1) := dk_3 (dk_at dksX1_paved_2 19 rfl rfl)
theorem dX1_paved_68 : decode cX1_paved 68 = .ok (.istore 5, 2) := dk_54 5 (dk_at dksX1_paved_2 20 rfl rfl)
theorem dX1_paved_70 : decode cX1_paved 70 = .ok (.iconst 0, 1) := dk_3 (dk_at dksX1_paved_2 22 rfl rfl)
theorem dX1_paved_71 : decode cX1_paved 71 = .ok (.istore 6, 2) := dk_54 6 (dk_at dksX1_paved_3 0 rfl rfl)
theorem dX1_paved_73 : decode cX1_paved 73 = .ok (.iload 6, 2) := dk_21 6 (dk_at dksX1_paved_3 2 rfl rfl)
theorem dX1_paved_75 : decode cX1_paved 75 = .ok (.aload_n 0, 1) := dk_42 (dk_at dksX1_paved_3 4 rfl rfl)
theorem dX1_paved_76 : decode cX1_paved 76 = .ok (.getfield 39, 3) := dk_180 0 39 (dk_at dksX1_paved_3 5 rfl rfl)
theorem dX1_paved_79 : decode cX1_paved 79 = .ok (.invokevirtual 225, 3) := dk_182 0 225 (dk_at dksX1_paved_3 8 rfl rfl)
theorem dX1_paved_82 : decode cX1_paved 82 = .ok (.if_icmp .ge 24, 3) := dk_162 0 24 (dk_at dksX1_paved_3 11 rfl rfl)
theorem dX1_paved_85 : decode cX1_paved 85 = .ok (.aload_n 0, 1) := dk_42 (dk_at dksX1_paved_3 14 rfl rfl)
theorem dX1_paved_86 : decode cX1_paved 86 = .ok (.getfield 70, 3) := dk_180 0 70 (dk_at dksX1_paved_3 15 rfl rfl)
theorem dX1_paved_89 : decode cX1_paved 89 = .ok (.iload_n 1, 1) := dk_27 (dk_at dksX1_paved_3 18 rfl rfl)
theorem dX1_paved_90 : decode cX1_paved 90 = .ok (.aaload, 1) := dk_50 (dk_at dksX1_paved_3 19 rfl rfl)
theorem dX1_paved_91 : decode cX1_paved 91 = .ok (.iload 6, 2) := dk_21 6 (dk_at dksX1_paved_3 20 rfl rfl)
theorem dX1_paved_93 : decode cX1_paved 93 = .ok (.baload, 1) := dk_51 (dk_at dksX1_paved_3 22 rfl rfl)
theorem dX1_paved_94 : decode cX1_paved 94 = .ok (.ifCond .eq 6, 3) := dk_153 0 6 (dk_at dksX1_paved_4 0 rfl rfl)
theorem dX1_paved_97 : decode cX1_paved 97 = .ok (.iinc 5 1, 3) := dk_132 5 1 (dk_at dksX1_paved_4 3 rfl rfl)
theorem dX1_paved_100 : decode cX1_paved 100 = .ok (.iinc 6 1, 3) := dk_132 6 1 (dk_at dksX1_paved_4 6 rfl rfl)
theorem dX1_paved_103 : decode cX1_paved 103 = .ok (.goto (-30), 3) := dk_167 255 226 (dk_at dksX1_paved_4 9 rfl rfl)
theorem dX1_paved_106 : decode cX1_paved 106 = .ok (.iload 5, 2) := dk_21 5 (dk_at dksX1_paved_4 12 rfl rfl)
theorem dX1_paved_108 : decode cX1_paved 108 = .ok (.ireturn, 1) := dk_172 (dk_at dksX1_paved_4 14 rfl rfl)
abbrev cX1_pave : ByteArray := prog_1_method_40_code
def yX1_pave : MethodName := ⟨RX1, "pave", "(II)V"⟩
def dkwX1_pave_4 : List UInt8 := [177]
abbrev dktX1_pave_4 : List UInt8 := dkwX1_pave_4 ++ []
def dkwX1_pave_3 : List UInt8 := [182, 1, 13, 153, 0, 7, 4, 167, 0, 4, 3, 84, 132, 5, 1, 167, 255, 207, 132, 4, 1, 167, 255, 179]
abbrev dktX1_pave_3 : List UInt8 := dkwX1_pave_3 ++ dktX1_pave_4
def dkwX1_pave_2 : List UInt8 := [180, 0, 70, 21, 4, 50, 21, 5, 45, 21, 5, 182, 0, 228, 153, 0, 20, 45, 42, 180, 0, 49, 21, 5]
abbrev dktX1_pave_2 : List UInt8 := dkwX1_pave_2 ++ dktX1_pave_3
def dkwX1_pave_1 : List UInt8 := [180, 0, 49, 42, 180, 0, 55, 182, 1, 49, 3, 54, 5, 21, 5, 45, 182, 0, 225, 162, 0, 46, 42]
abbrev dktX1_pave_1 : List UInt8 := dkwX1_pave_1 ++ dktX1_pave_2
def dkwX1_pave_0 : List UInt8 := [42, 180, 0, 39, 42, 180, 0, 43, 182, 1, 41, 78, 4, 54, 4, 21, 4, 27, 163, 0, 77, 45, 28, 42]
abbrev dktX1_pave_0 : List UInt8 := dkwX1_pave_0 ++ dktX1_pave_1
theorem dksX1_pave_0 : cX1_pave.data.toList.drop 0 = dktX1_pave_0 := by decide +kernel
theorem dksX1_pave_1 : cX1_pave.data.toList.drop 24 = dktX1_pave_1 := dk_seg dksX1_pave_0 24 rfl rfl
theorem dksX1_pave_2 : cX1_pave.data.toList.drop 47 = dktX1_pave_2 := dk_seg dksX1_pave_1 23 rfl rfl
theorem dksX1_pave_3 : cX1_pave.data.toList.drop 71 = dktX1_pave_3 := dk_seg dksX1_pave_2 24 rfl rfl
theorem dksX1_pave_4 : cX1_pave.data.toList.drop 95 = dktX1_pave_4 := dk_seg dksX1_pave_3 24 rfl rfl
theorem dX1_pave_0 : decode cX1_pave 0 = .ok (.aload_n 0, 1) := dk_42 (dk_at dksX1_pave_0 0 rfl rfl)
theorem dX1_pave_1 : decode cX1_pave 1 = .ok (.getfield 39, 3) := dk_180 0 39 (dk_at dksX1_pave_0 1 rfl rfl)
theorem dX1_pave_4 : decode cX1_pave 4 = .ok (.aload_n 0, 1) := dk_42 (dk_at dksX1_pave_0 4 rfl rfl)
theorem dX1_pave_5 : decode cX1_pave 5 = .ok (.getfield 43, 3) := dk_180 0 43 (dk_at dksX1_pave_0 5 rfl rfl)
theorem dX1_pave_8 : decode cX1_pave 8 = .ok (.invokevirtual 297, 3) := dk_182 1 41 (dk_at dksX1_pave_0 8 rfl rfl)
theorem dX1_pave_11 : decode cX1_pave 11 = .ok (.astore_n 3, 1) := dk_78 (dk_at dksX1_pave_0 11 rfl rfl)
theorem dX1_pave_12 : decode cX1_pave 12 = .ok (.iconst 1, 1) := dk_4 (dk_at dksX1_pave_0 12 rfl rfl)
theorem dX1_pave_13 : decode cX1_pave 13 = .ok (.istore 4, 2) := dk_54 4 (dk_at dksX1_pave_0 13 rfl rfl)
theorem dX1_pave_15 : decode cX1_pave 15 = .ok (.iload 4, 2) := dk_21 4 (dk_at dksX1_pave_0 15 rfl rfl)
theorem dX1_pave_17 : decode cX1_pave 17 = .ok (.iload_n 1, 1) := dk_27 (dk_at dksX1_pave_0 17 rfl rfl)
theorem dX1_pave_18 : decode cX1_pave 18 = .ok (.if_icmp .gt 77, 3) := dk_163 0 77 (dk_at dksX1_pave_0 18 rfl rfl)
theorem dX1_pave_21 : decode cX1_pave 21 = .ok (.aload_n 3, 1) := dk_45 (dk_at dksX1_pave_0 21 rfl rfl)
theorem dX1_pave_22 : decode cX1_pave 22 = .ok (.iload_n 2, 1) := dk_28 (dk_at dksX1_pave_0 22 rfl rfl)
theorem dX1_pave_23 : decode cX1_pave 23 = .ok (.aload_n 0, 1) := dk_42 (dk_at dksX1_pave_0 23 rfl rfl)
theorem dX1_pave_24 : decode cX1_pave 24 = .ok (.getfield 49, 3) := dk_180 0 49 (dk_at dksX1_pave_1 0 rfl rfl)
theorem dX1_pave_27 : decode cX1_pave 27 = .ok (.aload_n 0, 1) := dk_42 (dk_at dksX1_pave_1 3 rfl rfl)
theorem dX1_pave_28 : decode cX1_pave 28 = .ok (.getfield 55, 3) := dk_180 0 55 (dk_at dksX1_pave_1 4 rfl rfl)
theorem dX1_pave_31 : decode cX1_pave 31 = .ok (.invokevirtual 305, 3) := dk_182 1 49 (dk_at dksX1_pave_1 7 rfl rfl)
theorem dX1_pave_34 : decode cX1_pave 34 = .ok (.iconst 0, 1) := dk_3 (dk_at dksX1_pave_1 10 rfl rfl)
theorem dX1_pave_35 : decode cX1_pave 35 = .ok (.istore 5, 2) := dk_54 5 (dk_at dksX1_pave_1 11 rfl rfl)
theorem dX1_pave_37 : decode cX1_pave 37 = .ok (.iload 5, 2) := dk_21 5 (dk_at dksX1_pave_1 13 rfl rfl)
theorem dX1_pave_39 : decode cX1_pave 39 = .ok (.aload_n 3, 1) := dk_45 (dk_at dksX1_pave_1 15 rfl rfl)
theorem dX1_pave_40 : decode cX1_pave 40 = .ok (.invokevirtual 225, 3) := dk_182 0 225 (dk_at dksX1_pave_1 16 rfl rfl)
theorem dX1_pave_43 : decode cX1_pave 43 = .ok (.if_icmp .ge 46, 3) := dk_162 0 46 (dk_at dksX1_pave_1 19 rfl rfl)
theorem dX1_pave_46 : decode cX1_pave 46 = .ok (.aload_n 0, 1) := dk_42 (dk_at dksX1_pave_1 22 rfl rfl)
theorem dX1_pave_47 : decode cX1_pave 47 = .ok (.getfield 70, 3) := dk_180 0 70 (dk_at dksX1_pave_2 0 rfl rfl)
theorem dX1_pave_50 : decode cX1_pave 50 = .ok (.iload 4, 2) := dk_21 4 (dk_at dksX1_pave_2 3 rfl rfl)
theorem dX1_pave_52 : decode cX1_pave 52 = .ok (.aaload, 1) := dk_50 (dk_at dksX1_pave_2 5 rfl rfl)
theorem dX1_pave_53 : decode cX1_pave 53 = .ok (.iload 5, 2) := dk_21 5 (dk_at dksX1_pave_2 6 rfl rfl)
theorem dX1_pave_55 : decode cX1_pave 55 = .ok (.aload_n 3, 1) := dk_45 (dk_at dksX1_pave_2 8 rfl rfl)
theorem dX1_pave_56 : decode cX1_pave 56 = .ok (.iload 5, 2) := dk_21 5 (dk_at dksX1_pave_2 9 rfl rfl)
theorem dX1_pave_58 : decode cX1_pave 58 = .ok (.invokevirtual 228, 3) := dk_182 0 228 (dk_at dksX1_pave_2 11 rfl rfl)
theorem dX1_pave_61 : decode cX1_pave 61 = .ok (.ifCond .eq 20, 3) := dk_153 0 20 (dk_at dksX1_pave_2 14 rfl rfl)
theorem dX1_pave_64 : decode cX1_pave 64 = .ok (.aload_n 3, 1) := dk_45 (dk_at dksX1_pave_2 17 rfl rfl)
theorem dX1_pave_65 : decode cX1_pave 65 = .ok (.aload_n 0, 1) := dk_42 (dk_at dksX1_pave_2 18 rfl rfl)
theorem dX1_pave_66 : decode cX1_pave 66 = .ok (.getfield 49, 3) := dk_180 0 49 (dk_at dksX1_pave_2 19 rfl rfl)
theorem dX1_pave_69 : decode cX1_pave 69 = .ok (.iload 5, 2) := dk_21 5 (dk_at dksX1_pave_2 22 rfl rfl)
theorem dX1_pave_71 : decode cX1_pave 71 = .ok (.invokevirtual 269, 3) := dk_182 1 13 (dk_at dksX1_pave_3 0 rfl rfl)
theorem dX1_pave_74 : decode cX1_pave 74 = .ok (.ifCond .eq 7, 3) := dk_153 0 7 (dk_at dksX1_pave_3 3 rfl rfl)
theorem dX1_pave_77 : decode cX1_pave 77 = .ok (.iconst 1, 1) := dk_4 (dk_at dksX1_pave_3 6 rfl rfl)
theorem dX1_pave_78 : decode cX1_pave 78 = .ok (.goto 4, 3) := dk_167 0 4 (dk_at dksX1_pave_3 7 rfl rfl)
theorem dX1_pave_81 : decode cX1_pave 81 = .ok (.iconst 0, 1) := dk_3 (dk_at dksX1_pave_3 10 rfl rfl)
theorem dX1_pave_82 : decode cX1_pave 82 = .ok (.bastore, 1) := dk_84 (dk_at dksX1_pave_3 11 rfl rfl)
theorem dX1_pave_83 : decode cX1_pave 83 = .ok (.iinc 5 1, 3) := dk_132 5 1 (dk_at dksX1_pave_3 12 rfl rfl)
theorem dX1_pave_86 : decode cX1_pave 86 = .ok (.goto (-49), 3) := dk_167 255 207 (dk_at dksX1_pave_3 15 rfl rfl)
theorem dX1_pave_89 : decode cX1_pave 89 = .ok (.iinc 4 1, 3) := dk_132 4 1 (dk_at dksX1_pave_3 18 rfl rfl)
theorem dX1_pave_92 : decode cX1_pave 92 = .ok (.goto (-77), 3) := dk_167 255 179 (dk_at dksX1_pave_3 21 rfl rfl)
theorem dX1_pave_95 : decode cX1_pave 95 = .ok (.return_, 1) := dk_177 (dk_at dksX1_pave_4 0 rfl rfl)
abbrev cX1_beyond : ByteArray := prog_1_method_41_code
def yX1_beyond : MethodName := ⟨RX1, "beyond", "(II)I"⟩
def dkwX1_beyond_2 : List UInt8 := [167, 255, 214, 29, 172]
abbrev dktX1_beyond_2 : List UInt8 := dkwX1_beyond_2 ++ []
def dkwX1_beyond_1 : List UInt8 := [21, 4, 51, 153, 0, 18, 42, 180, 0, 70, 28, 50, 21, 4, 51, 154, 0, 6, 132, 3, 1, 132, 4, 1]
abbrev dktX1_beyond_1 : List UInt8 := dkwX1_beyond_1 ++ dktX1_beyond_2
def dkwX1_beyond_0 : List UInt8 := [3, 62, 3, 54, 4, 21, 4, 42, 180, 0, 39, 182, 0, 225, 162, 0, 36, 42, 180, 0, 70, 27, 50]
abbrev dktX1_beyond_0 : List UInt8 := dkwX1_beyond_0 ++ dktX1_beyond_1
theorem dksX1_beyond_0 : cX1_beyond.data.toList.drop 0 = dktX1_beyond_0 := by decide +kernel
theorem dksX1_beyond_1 : cX1_beyond.data.toList.drop 23 = dktX1_beyond_1 := dk_seg dksX1_beyond_0 23 rfl rfl
theorem dksX1_beyond_2 : cX1_beyond.data.toList.drop 47 = dktX1_beyond_2 := dk_seg dksX1_beyond_1 24 rfl rfl
theorem dX1_beyond_0 : decode cX1_beyond 0 = .ok (.iconst 0, 1) := dk_3 (dk_at dksX1_beyond_0 0 rfl rfl)
theorem dX1_beyond_1 : decode cX1_beyond 1 = .ok (.istore_n 3, 1) := dk_62 (dk_at dksX1_beyond_0 1 rfl rfl)
theorem dX1_beyond_2 : decode cX1_beyond 2 = .ok (.iconst 0, 1) := dk_3 (dk_at dksX1_beyond_0 2 rfl rfl)
theorem dX1_beyond_3 : decode cX1_beyond 3 = .ok (.istore 4, 2) := dk_54 4 (dk_at dksX1_beyond_0 3 rfl rfl)
theorem dX1_beyond_5 : decode cX1_beyond 5 = .ok (.iload 4, 2) := dk_21 4 (dk_at dksX1_beyond_0 5 rfl rfl)
theorem dX1_beyond_7 : decode cX1_beyond 7 = .ok (.aload_n 0, 1) := dk_42 (dk_at dksX1_beyond_0 7 rfl rfl)
theorem dX1_beyond_8 : decode cX1_beyond 8 = .ok (.getfield 39, 3) := dk_180 0 39 (dk_at dksX1_beyond_0 8 rfl rfl)
theorem dX1_beyond_11 : decode cX1_beyond 11 = .ok (.invokevirtual 225, 3) := dk_182 0 225 (dk_at dksX1_beyond_0 11 rfl rfl)
theorem dX1_beyond_14 : decode cX1_beyond 14 = .ok (.if_icmp .ge 36, 3) := dk_162 0 36 (dk_at dksX1_beyond_0 14 rfl rfl)
theorem dX1_beyond_17 : decode cX1_beyond 17 = .ok (.aload_n 0, 1) := dk_42 (dk_at dksX1_beyond_0 17 rfl rfl)
theorem dX1_beyond_18 : decode cX1_beyond 18 = .ok (.getfield 70, 3) := dk_180 0 70 (dk_at dksX1_beyond_0 18 rfl rfl)
theorem dX1_beyond_21 : decode cX1_beyond 21 = .ok (.iload_n 1, 1) := dk_27 (dk_at dksX1_beyond_0 21 rfl rfl)
theorem dX1_beyond_22 : decode cX1_beyond 22 = .ok (.aaload, 1) := dk_50 (dk_at dksX1_beyond_0 22 rfl rfl)
theorem dX1_beyond_23 : decode cX1_beyond 23 = .ok (.iload 4, 2) := dk_21 4 (dk_at dksX1_beyond_1 0 rfl rfl)
theorem dX1_beyond_25 : decode cX1_beyond 25 = .ok (.baload, 1) := dk_51 (dk_at dksX1_beyond_1 2 rfl rfl)
theorem dX1_beyond_26 : decode cX1_beyond 26 = .ok (.ifCond .eq 18, 3) := dk_153 0 18 (dk_at dksX1_beyond_1 3 rfl rfl)
theorem dX1_beyond_29 : decode cX1_beyond 29 = .ok (.aload_n 0, 1) := dk_42 (dk_at dksX1_beyond_1 6 rfl rfl)
theorem dX1_beyond_30 : decode cX1_beyond 30 = .ok (.getfield 70, 3) := dk_180 0 70 (dk_at dksX1_beyond_1 7 rfl rfl)
theorem dX1_beyond_33 : decode cX1_beyond 33 = .ok (.iload_n 2, 1) := dk_28 (dk_at dksX1_beyond_1 10 rfl rfl)
theorem dX1_beyond_34 : decode cX1_beyond 34 = .ok (.aaload, 1) := dk_50 (dk_at dksX1_beyond_1 11 rfl rfl)
theorem dX1_beyond_35 : decode cX1_beyond 35 = .ok (.iload 4, 2) := dk_21 4 (dk_at dksX1_beyond_1 12 rfl rfl)
theorem dX1_beyond_37 : decode cX1_beyond 37 = .ok (.baload, 1) := dk_51 (dk_at dksX1_beyond_1 14 rfl rfl)
theorem dX1_beyond_38 : decode cX1_beyond 38 = .ok (.ifCond .ne 6, 3) := dk_154 0 6 (dk_at dksX1_beyond_1 15 rfl rfl)
theorem dX1_beyond_41 : decode cX1_beyond 41 = .ok (.iinc 3 1, 3) := dk_132 3 1 (dk_at dksX1_beyond_1 18 rfl rfl)
theorem dX1_beyond_44 : decode cX1_beyond 44 = .ok (.iinc 4 1, 3) := dk_132 4 1 (dk_at dksX1_beyond_1 21 rfl rfl)
theorem dX1_beyond_47 : decode cX1_beyond 47 = .ok (.goto (-42), 3) := dk_167 255 214 (dk_at dksX1_beyond_2 0 rfl rfl)
theorem dX1_beyond_50 : decode cX1_beyond 50 = .ok (.iload_n 3, 1) := dk_29 (dk_at dksX1_beyond_2 3 rfl rfl)
theorem dX1_beyond_51 : decode cX1_beyond 51 = .ok (.ireturn, 1) := dk_172 (dk_at dksX1_beyond_2 4 rfl rfl)
abbrev cX1_wait : ByteArray := prog_1_method_43_code
def yX1_wait : MethodName := ⟨RX1, "wait", "(II)I"⟩
def dkwX1_wait_3 : List UInt8 := [54, 4, 21, 5, 62, 132, 5, 1, 167, 255, 210, 29, 172]
abbrev dktX1_wait_3 : List UInt8 := dkwX1_wait_3 ++ []
def dkwX1_wait_2 : List UInt8 := [21, 5, 182, 1, 81, 96, 21, 5, 96, 54, 6, 21, 6, 21, 4, 161, 0, 6, 167, 0, 10, 21, 6]
abbrev dktX1_wait_2 : List UInt8 := dkwX1_wait_2 ++ dktX1_wait_3
def dkwX1_wait_1 : List UInt8 := [19, 1, 62, 54, 4, 4, 54, 5, 21, 5, 27, 163, 0, 46, 42, 21, 5, 27, 182, 1, 81, 42, 27]
abbrev dktX1_wait_1 : List UInt8 := dkwX1_wait_1 ++ dktX1_wait_2
def dkwX1_wait_0 : List UInt8 := [27, 16, 20, 28, 17, 0, 200, 184, 1, 37, 154, 0, 5, 2, 172, 42, 27, 28, 182, 1, 78, 2, 62]
abbrev dktX1_wait_0 : List UInt8 := dkwX1_wait_0 ++ dktX1_wait_1
theorem dksX1_wait_0 : cX1_wait.data.toList.drop 0 = dktX1_wait_0 := by decide +kernel
theorem dksX1_wait_1 : cX1_wait.data.toList.drop 23 = dktX1_wait_1 := dk_seg dksX1_wait_0 23 rfl rfl
theorem dksX1_wait_2 : cX1_wait.data.toList.drop 46 = dktX1_wait_2 := dk_seg dksX1_wait_1 23 rfl rfl
theorem dksX1_wait_3 : cX1_wait.data.toList.drop 69 = dktX1_wait_3 := dk_seg dksX1_wait_2 23 rfl rfl
theorem dX1_wait_0 : decode cX1_wait 0 = .ok (.iload_n 1, 1) := dk_27 (dk_at dksX1_wait_0 0 rfl rfl)
theorem dX1_wait_1 : decode cX1_wait 1 = .ok (.bipush 20, 2) := dk_16 20 (dk_at dksX1_wait_0 1 rfl rfl)
theorem dX1_wait_3 : decode cX1_wait 3 = .ok (.iload_n 2, 1) := dk_28 (dk_at dksX1_wait_0 3 rfl rfl)
theorem dX1_wait_4 : decode cX1_wait 4 = .ok (.sipush 200, 3) := dk_17 0 200 (dk_at dksX1_wait_0 4 rfl rfl)
theorem dX1_wait_7 : decode cX1_wait 7 = .ok (.invokestatic 293, 3) := dk_184 1 37 (dk_at dksX1_wait_0 7 rfl rfl)
theorem dX1_wait_10 : decode cX1_wait 10 = .ok (.ifCond .ne 5, 3) := dk_154 0 5 (dk_at dksX1_wait_0 10 rfl rfl)
theorem dX1_wait_13 : decode cX1_wait 13 = .ok (.iconst (-1), 1) := dk_2 (dk_at dksX1_wait_0 13 rfl rfl)
theorem dX1_wait_14 : decode cX1_wait 14 = .ok (.ireturn, 1) := dk_172 (dk_at dksX1_wait_0 14 rfl rfl)
theorem dX1_wait_15 : decode cX1_wait 15 = .ok (.aload_n 0, 1) := dk_42 (dk_at dksX1_wait_0 15 rfl rfl)
theorem dX1_wait_16 : decode cX1_wait 16 = .ok (.iload_n 1, 1) := dk_27 (dk_at dksX1_wait_0 16 rfl rfl)
theorem dX1_wait_17 : decode cX1_wait 17 = .ok (.iload_n 2, 1) := dk_28 (dk_at dksX1_wait_0 17 rfl rfl)
theorem dX1_wait_18 : decode cX1_wait 18 = .ok (.invokevirtual 334, 3) := dk_182 1 78 (dk_at dksX1_wait_0 18 rfl rfl)
theorem dX1_wait_21 : decode cX1_wait 21 = .ok (.iconst (-1), 1) := dk_2 (dk_at dksX1_wait_0 21 rfl rfl)
theorem dX1_wait_22 : decode cX1_wait 22 = .ok (.istore_n 3, 1) := dk_62 (dk_at dksX1_wait_0 22 rfl rfl)
theorem dX1_wait_23 : decode cX1_wait 23 = .ok (.ldc_w 318, 3) := dk_19 1 62 (dk_at dksX1_wait_1 0 rfl rfl)
theorem dX1_wait_26 : decode cX1_wait 26 = .ok (.istore 4, 2) := dk_54 4 (dk_at dksX1_wait_1 3 rfl rfl)
theorem dX1_wait_28 : decode cX1_wait 28 = .ok (.iconst 1, 1) := dk_4 (dk_at dksX1_wait_1 5 rfl rfl)
theorem dX1_wait_29 : decode cX1_wait 29 = .ok (.istore 5, 2) := dk_54 5 (dk_at dksX1_wait_1 6 rfl rfl)
theorem dX1_wait_31 : decode cX1_wait 31 = .ok (.iload 5, 2) := dk_21 5 (dk_at dksX1_wait_1 8 rfl rfl)
theorem dX1_wait_33 : decode cX1_wait 33 = .ok (.iload_n 1, 1) := dk_27 (dk_at dksX1_wait_1 10 rfl rfl)
theorem dX1_wait_34 : decode cX1_wait 34 = .ok (.if_icmp .gt 46, 3) := dk_163 0 46 (dk_at dksX1_wait_1 11 rfl rfl)
theorem dX1_wait_37 : decode cX1_wait 37 = .ok (.aload_n 0, 1) := dk_42 (dk_at dksX1_wait_1 14 rfl rfl)
theorem dX1_wait_38 : decode cX1_wait 38 = .ok (.iload 5, 2) := dk_21 5 (dk_at dksX1_wait_1 15 rfl rfl)
theorem dX1_wait_40 : decode cX1_wait 40 = .ok (.iload_n 1, 1) := dk_27 (dk_at dksX1_wait_1 17 rfl rfl)
theorem dX1_wait_41 : decode cX1_wait 41 = .ok (.invokevirtual 337, 3) := dk_182 1 81 (dk_at dksX1_wait_1 18 rfl rfl)
theorem dX1_wait_44 : decode cX1_wait 44 = .ok (.aload_n 0, 1) := dk_42 (dk_at dksX1_wait_1 21 rfl rfl)
theorem dX1_wait_45 : decode cX1_wait 45 = .ok (.iload_n 1, 1) := dk_27 (dk_at dksX1_wait_1 22 rfl rfl)
theorem dX1_wait_46 : decode cX1_wait 46 = .ok (.iload 5, 2) := dk_21 5 (dk_at dksX1_wait_2 0 rfl rfl)
theorem dX1_wait_48 : decode cX1_wait 48 = .ok (.invokevirtual 337, 3) := dk_182 1 81 (dk_at dksX1_wait_2 2 rfl rfl)
theorem dX1_wait_51 : decode cX1_wait 51 = .ok (.iadd, 1) := dk_96 (dk_at dksX1_wait_2 5 rfl rfl)
theorem dX1_wait_52 : decode cX1_wait 52 = .ok (.iload 5, 2) := dk_21 5 (dk_at dksX1_wait_2 6 rfl rfl)
theorem dX1_wait_54 : decode cX1_wait 54 = .ok (.iadd, 1) := dk_96 (dk_at dksX1_wait_2 8 rfl rfl)
theorem dX1_wait_55 : decode cX1_wait 55 = .ok (.istore 6, 2) := dk_54 6 (dk_at dksX1_wait_2 9 rfl rfl)
theorem dX1_wait_57 : decode cX1_wait 57 = .ok (.iload 6, 2) := dk_21 6 (dk_at dksX1_wait_2 11 rfl rfl)
theorem dX1_wait_59 : decode cX1_wait 59 = .ok (.iload 4, 2) := dk_21 4 (dk_at dksX1_wait_2 13 rfl rfl)
theorem dX1_wait_61 : decode cX1_wait 61 = .ok (.if_icmp .lt 6, 3) := dk_161 0 6 (dk_at dksX1_wait_2 15 rfl rfl)
theorem dX1_wait_64 : decode cX1_wait 64 = .ok (.goto 10, 3) := dk_167 0 10 (dk_at dksX1_wait_2 18 rfl rfl)
theorem dX1_wait_67 : decode cX1_wait 67 = .ok (.iload 6, 2) := dk_21 6 (dk_at dksX1_wait_2 21 rfl rfl)
theorem dX1_wait_69 : decode cX1_wait 69 = .ok (.istore 4, 2) := dk_54 4 (dk_at dksX1_wait_3 0 rfl rfl)
theorem dX1_wait_71 : decode cX1_wait 71 = .ok (.iload 5, 2) := dk_21 5 (dk_at dksX1_wait_3 2 rfl rfl)
theorem dX1_wait_73 : decode cX1_wait 73 = .ok (.istore_n 3, 1) := dk_62 (dk_at dksX1_wait_3 4 rfl rfl)
theorem dX1_wait_74 : decode cX1_wait 74 = .ok (.iinc 5 1, 3) := dk_132 5 1 (dk_at dksX1_wait_3 5 rfl rfl)
theorem dX1_wait_77 : decode cX1_wait 77 = .ok (.goto (-46), 3) := dk_167 255 210 (dk_at dksX1_wait_3 8 rfl rfl)
theorem dX1_wait_80 : decode cX1_wait 80 = .ok (.iload_n 3, 1) := dk_29 (dk_at dksX1_wait_3 11 rfl rfl)
theorem dX1_wait_81 : decode cX1_wait 81 = .ok (.ireturn, 1) := dk_172 (dk_at dksX1_wait_3 12 rfl rfl)
abbrev cX1_fences : ByteArray := prog_1_method_46_code
def yX1_fences : MethodName := ⟨RX1, "fences", "(II)I"⟩
def dkwX1_fences_10 : List UInt8 := [182, 1, 93, 172, 132, 6, 1, 167, 255, 208, 132, 5, 1, 167, 255, 190, 2, 172]
abbrev dktX1_fences_10 : List UInt8 := dkwX1_fences_10 ++ []
def dkwX1_fences_9 : List UInt8 := [182, 0, 116, 182, 1, 90, 153, 0, 21, 42, 5, 42, 21, 5, 182, 0, 116, 42, 21, 6, 182, 0, 116]
abbrev dktX1_fences_9 : List UInt8 := dkwX1_fences_9 ++ dktX1_fences_10
def dkwX1_fences_8 : List UInt8 := [21, 5, 4, 96, 54, 6, 21, 6, 29, 162, 0, 48, 42, 27, 28, 42, 21, 5, 182, 0, 116, 42, 21, 6]
abbrev dktX1_fences_8 : List UInt8 := dkwX1_fences_8 ++ dktX1_fences_9
def dkwX1_fences_7 : List UInt8 := [182, 0, 116, 2, 182, 1, 93, 172, 132, 5, 1, 167, 255, 218, 3, 54, 5, 21, 5, 29, 162, 0, 66]
abbrev dktX1_fences_7 : List UInt8 := dkwX1_fences_7 ++ dktX1_fences_8
def dkwX1_fences_6 : List UInt8 := [162, 0, 38, 42, 27, 28, 42, 21, 5, 182, 0, 116, 2, 182, 1, 90, 153, 0, 16, 42, 4, 42, 21, 5]
abbrev dktX1_fences_6 : List UInt8 := dkwX1_fences_6 ++ dktX1_fences_7
def dkwX1_fences_5 : List UInt8 := [27, 28, 2, 2, 182, 1, 90, 153, 0, 11, 42, 3, 2, 2, 182, 1, 93, 172, 3, 54, 5, 21, 5, 29]
abbrev dktX1_fences_5 : List UInt8 := dkwX1_fences_5 ++ dktX1_fences_6
def dkwX1_fences_4 : List UInt8 := [25, 4, 42, 21, 5, 182, 0, 116, 182, 0, 249, 153, 0, 6, 16, 254, 172, 132, 5, 1, 167, 255, 188, 42]
abbrev dktX1_fences_4 : List UInt8 := dkwX1_fences_4 ++ dktX1_fences_5
def dkwX1_fences_3 : List UInt8 := [182, 0, 116, 182, 0, 143, 153, 0, 31, 25, 4, 42, 21, 5, 182, 0, 116, 182, 0, 146, 154, 0, 17]
abbrev dktX1_fences_3 : List UInt8 := dkwX1_fences_3 ++ dktX1_fences_4
def dkwX1_fences_2 : List UInt8 := [29, 162, 0, 68, 25, 4, 42, 21, 5, 182, 0, 116, 182, 0, 139, 153, 0, 45, 25, 4, 42, 21, 5]
abbrev dktX1_fences_2 : List UInt8 := dkwX1_fences_2 ++ dktX1_fences_3
def dkwX1_fences_1 : List UInt8 := [184, 0, 112, 153, 0, 13, 29, 4, 16, 12, 184, 0, 112, 154, 0, 6, 16, 254, 172, 3, 54, 5, 21, 5]
abbrev dktX1_fences_1 : List UInt8 := dkwX1_fences_1 ++ dktX1_fences_2
def dkwX1_fences_0 : List UInt8 := [42, 182, 0, 109, 62, 42, 180, 0, 39, 58, 4, 25, 4, 27, 182, 0, 139, 153, 0, 23, 28, 4, 16, 100]
abbrev dktX1_fences_0 : List UInt8 := dkwX1_fences_0 ++ dktX1_fences_1
theorem dksX1_fences_0 : cX1_fences.data.toList.drop 0 = dktX1_fences_0 := by decide +kernel
theorem dksX1_fences_1 : cX1_fences.data.toList.drop 24 = dktX1_fences_1 := dk_seg dksX1_fences_0 24 rfl rfl
theorem dksX1_fences_2 : cX1_fences.data.toList.drop 48 = dktX1_fences_2 := dk_seg dksX1_fences_1 24 rfl rfl
theorem dksX1_fences_3 : cX1_fences.data.toList.drop 71 = dktX1_fences_3 := dk_seg dksX1_fences_2 23 rfl rfl
theorem dksX1_fences_4 : cX1_fences.data.toList.drop 94 = dktX1_fences_4 := dk_seg dksX1_fences_3 23 rfl rfl
theorem dksX1_fences_5 : cX1_fences.data.toList.drop 118 = dktX1_fences_5 := dk_seg dksX1_fences_4 24 rfl rfl
theorem dksX1_fences_6 : cX1_fences.data.toList.drop 142 = dktX1_fences_6 := dk_seg dksX1_fences_5 24 rfl rfl
theorem dksX1_fences_7 : cX1_fences.data.toList.drop 166 = dktX1_fences_7 := dk_seg dksX1_fences_6 24 rfl rfl
theorem dksX1_fences_8 : cX1_fences.data.toList.drop 189 = dktX1_fences_8 := dk_seg dksX1_fences_7 23 rfl rfl
theorem dksX1_fences_9 : cX1_fences.data.toList.drop 213 = dktX1_fences_9 := dk_seg dksX1_fences_8 24 rfl rfl
theorem dksX1_fences_10 : cX1_fences.data.toList.drop 236 = dktX1_fences_10 := dk_seg dksX1_fences_9 23 rfl rfl
theorem dX1_fences_0 : decode cX1_fences 0 = .ok (.aload_n 0, 1) := dk_42 (dk_at dksX1_fences_0 0 rfl rfl)
theorem dX1_fences_1 : decode cX1_fences 1 = .ok (.invokevirtual 109, 3) := dk_182 0 109 (dk_at dksX1_fences_0 1 rfl rfl)
theorem dX1_fences_4 : decode cX1_fences 4 = .ok (.istore_n 3, 1) := dk_62 (dk_at dksX1_fences_0 4 rfl rfl)
theorem dX1_fences_5 : decode cX1_fences 5 = .ok (.aload_n 0, 1) := dk_42 (dk_at dksX1_fences_0 5 rfl rfl)
theorem dX1_fences_6 : decode cX1_fences 6 = .ok (.getfield 39, 3) := dk_180 0 39 (dk_at dksX1_fences_0 6 rfl rfl)
theorem dX1_fences_9 : decode cX1_fences 9 = .ok (.astore 4, 2) := dk_58 4 (dk_at dksX1_fences_0 9 rfl rfl)
theorem dX1_fences_11 : decode cX1_fences 11 = .ok (.aload 4, 2) := dk_25 4 (dk_at dksX1_fences_0 11 rfl rfl)
theorem dX1_fences_13 : decode cX1_fences 13 = .ok (.iload_n 1, 1) := dk_27 (dk_at dksX1_fences_0 13 rfl rfl)
theorem dX1_fences_14 : decode cX1_fences 14 = .ok (.invokevirtual 139, 3) := dk_182 0 139 (dk_at dksX1_fences_0 14 rfl rfl)
theorem dX1_fences_17 : decode cX1_fences 17 = .ok (.ifCond .eq 23, 3) := dk_153 0 23 (dk_at dksX1_fences_0 17 rfl rfl)
theorem dX1_fences_20 : decode cX1_fences 20 = .ok (.iload_n 2, 1) := dk_28 (dk_at dksX1_fences_0 20 rfl rfl)
theorem dX1_fences_21 : decode cX1_fences 21 = .ok (.iconst 1, 1) := dk_4 (dk_at dksX1_fences_0 21 rfl rfl)
theorem dX1_fences_22 : decode cX1_fences 22 = .ok (.bipush 100, 2) := dk_16 100 (dk_at dksX1_fences_0 22 rfl rfl)
theorem dX1_fences_24 : decode cX1_fences 24 = .ok (.invokestatic 112, 3) := dk_184 0 112 (dk_at dksX1_fences_1 0 rfl rfl)
theorem dX1_fences_27 : decode cX1_fences 27 = .ok (.ifCond .eq 13, 3) := dk_153 0 13 (dk_at dksX1_fences_1 3 rfl rfl)
theorem dX1_fences_30 : decode cX1_fences 30 = .ok (.iload_n 3, 1) := dk_29 (dk_at dksX1_fences_1 6 rfl rfl)
theorem dX1_fences_31 : decode cX1_fences 31 = .ok (.iconst 1, 1) := dk_4 (dk_at dksX1_fences_1 7 rfl rfl)
theorem dX1_fences_32 : decode cX1_fences 32 = .ok (.bipush 12, 2) := dk_16 12 (dk_at dksX1_fences_1 8 rfl rfl)
theorem dX1_fences_34 : decode cX1_fences 34 = .ok (.invokestatic 112, 3) := dk_184 0 112 (dk_at dksX1_fences_1 10 rfl rfl)
theorem dX1_fences_37 : decode cX1_fences 37 = .ok (.ifCond .ne 6, 3) := dk_154 0 6 (dk_at dksX1_fences_1 13 rfl rfl)
theorem dX1_fences_40 : decode cX1_fences 40 = .ok (.bipush (-2), 2) := dk_16 254 (dk_at dksX1_fences_1 16 rfl rfl)
theorem dX1_fences_42 : decode cX1_fences 42 = .ok (.ireturn, 1) := dk_172 (dk_at dksX1_fences_1 18 rfl rfl)
theorem dX1_fences_43 : decode cX1_fences 43 = .ok (.iconst 0, 1) := dk_3 (dk_at dksX1_fences_1 19 rfl rfl)
theorem dX1_fences_44 : decode cX1_fences 44 = .ok (.istore 5, 2) := dk_54 5 (dk_at dksX1_fences_1 20 rfl rfl)
theorem dX1_fences_46 : decode cX1_fences 46 = .ok (.iload 5, 2) := dk_21 5 (dk_at dksX1_fences_1 22 rfl rfl)
theorem dX1_fences_48 : decode cX1_fences 48 = .ok (.iload_n 3, 1) := dk_29 (dk_at dksX1_fences_2 0 rfl rfl)
theorem dX1_fences_49 : decode cX1_fences 49 = .ok (.if_icmp .ge 68, 3) := dk_162 0 68 (dk_at dksX1_fences_2 1 rfl rfl)
theorem dX1_fences_52 : decode cX1_fences 52 = .ok (.aload 4, 2) := dk_25 4 (dk_at dksX1_fences_2 4 rfl rfl)
theorem dX1_fences_54 : decode cX1_fences 54 = .ok (.aload_n 0, 1) := dk_42 (dk_at dksX1_fences_2 6 rfl rfl)
theorem dX1_fences_55 : decode cX1_fences 55 = .ok (.iload 5, 2) := dk_21 5 (dk_at dksX1_fences_2 7 rfl rfl)
theorem dX1_fences_57 : decode cX1_fences 57 = .ok (.invokevirtual 116, 3) := dk_182 0 116 (dk_at dksX1_fences_2 9 rfl rfl)
theorem dX1_fences_60 : decode cX1_fences 60 = .ok (.invokevirtual 139, 3) := dk_182 0 139 (dk_at dksX1_fences_2 12 rfl rfl)
theorem dX1_fences_63 : decode cX1_fences 63 = .ok (.ifCond .eq 45, 3) := dk_153 0 45 (dk_at dksX1_fences_2 15 rfl rfl)
theorem dX1_fences_66 : decode cX1_fences 66 = .ok (.aload 4, 2) := dk_25 4 (dk_at dksX1_fences_2 18 rfl rfl)
theorem dX1_fences_68 : decode cX1_fences 68 = .ok (.aload_n 0, 1) := dk_42 (dk_at dksX1_fences_2 20 rfl rfl)
theorem dX1_fences_69 : decode cX1_fences 69 = .ok (.iload 5, 2) := dk_21 5 (dk_at dksX1_fences_2 21 rfl rfl)
theorem dX1_fences_71 : decode cX1_fences 71 = .ok (.invokevirtual 116, 3) := dk_182 0 116 (dk_at dksX1_fences_3 0 rfl rfl)
theorem dX1_fences_74 : decode cX1_fences 74 = .ok (.invokevirtual 143, 3) := dk_182 0 143 (dk_at dksX1_fences_3 3 rfl rfl)
theorem dX1_fences_77 : decode cX1_fences 77 = .ok (.ifCond .eq 31, 3) := dk_153 0 31 (dk_at dksX1_fences_3 6 rfl rfl)
theorem dX1_fences_80 : decode cX1_fences 80 = .ok (.aload 4, 2) := dk_25 4 (dk_at dksX1_fences_3 9 rfl rfl)
theorem dX1_fences_82 : decode cX1_fences 82 = .ok (.aload_n 0, 1) := dk_42 (dk_at dksX1_fences_3 11 rfl rfl)
theorem dX1_fences_83 : decode cX1_fences 83 = .ok (.iload 5, 2) := dk_21 5 (dk_at dksX1_fences_3 12 rfl rfl)
theorem dX1_fences_85 : decode cX1_fences 85 = .ok (.invokevirtual 116, 3) := dk_182 0 116 (dk_at dksX1_fences_3 14 rfl rfl)
theorem dX1_fences_88 : decode cX1_fences 88 = .ok (.invokevirtual 146, 3) := dk_182 0 146 (dk_at dksX1_fences_3 17 rfl rfl)
theorem dX1_fences_91 : decode cX1_fences 91 = .ok (.ifCond .ne 17, 3) := dk_154 0 17 (dk_at dksX1_fences_3 20 rfl rfl)
theorem dX1_fences_94 : decode cX1_fences 94 = .ok (.aload 4, 2) := dk_25 4 (dk_at dksX1_fences_4 0 rfl rfl)
theorem dX1_fences_96 : decode cX1_fences 96 = .ok (.aload_n 0, 1) := dk_42 (dk_at dksX1_fences_4 2 rfl rfl)
theorem dX1_fences_97 : decode cX1_fences 97 = .ok (.iload 5, 2) := dk_21 5 (dk_at dksX1_fences_4 3 rfl rfl)
theorem dX1_fences_99 : decode cX1_fences 99 = .ok (.invokevirtual 116, 3) := dk_182 0 116 (dk_at dksX1_fences_4 5 rfl rfl)
theorem dX1_fences_102 : decode cX1_fences 102 = .ok (.invokevirtual 249, 3) := dk_182 0 249 (dk_at dksX1_fences_4 8 rfl rfl)
theorem dX1_fences_105 : decode cX1_fences 105 = .ok (.ifCond .eq 6, 3) := dk_153 0 6 (dk_at dksX1_fences_4 11 rfl rfl)
theorem dX1_fences_108 : decode cX1_fences 108 = .ok (.bipush (-2), 2) := dk_16 254 (dk_at dksX1_fences_4 14 rfl rfl)
theorem dX1_fences_110 : decode cX1_fences 110 = .ok (.ireturn, 1) := dk_172 (dk_at dksX1_fences_4 16 rfl rfl)
theorem dX1_fences_111 : decode cX1_fences 111 = .ok (.iinc 5 1, 3) := dk_132 5 1 (dk_at dksX1_fences_4 17 rfl rfl)
theorem dX1_fences_114 : decode cX1_fences 114 = .ok (.goto (-68), 3) := dk_167 255 188 (dk_at dksX1_fences_4 20 rfl rfl)
theorem dX1_fences_117 : decode cX1_fences 117 = .ok (.aload_n 0, 1) := dk_42 (dk_at dksX1_fences_4 23 rfl rfl)
theorem dX1_fences_118 : decode cX1_fences 118 = .ok (.iload_n 1, 1) := dk_27 (dk_at dksX1_fences_5 0 rfl rfl)
theorem dX1_fences_119 : decode cX1_fences 119 = .ok (.iload_n 2, 1) := dk_28 (dk_at dksX1_fences_5 1 rfl rfl)
theorem dX1_fences_120 : decode cX1_fences 120 = .ok (.iconst (-1), 1) := dk_2 (dk_at dksX1_fences_5 2 rfl rfl)
theorem dX1_fences_121 : decode cX1_fences 121 = .ok (.iconst (-1), 1) := dk_2 (dk_at dksX1_fences_5 3 rfl rfl)
theorem dX1_fences_122 : decode cX1_fences 122 = .ok (.invokevirtual 346, 3) := dk_182 1 90 (dk_at dksX1_fences_5 4 rfl rfl)
theorem dX1_fences_125 : decode cX1_fences 125 = .ok (.ifCond .eq 11, 3) := dk_153 0 11 (dk_at dksX1_fences_5 7 rfl rfl)
theorem dX1_fences_128 : decode cX1_fences 128 = .ok (.aload_n 0, 1) := dk_42 (dk_at dksX1_fences_5 10 rfl rfl)
theorem dX1_fences_129 : decode cX1_fences 129 = .ok (.iconst 0, 1) := dk_3 (dk_at dksX1_fences_5 11 rfl rfl)
theorem dX1_fences_130 : decode cX1_fences 130 = .ok (.iconst (-1), 1) := dk_2 (dk_at dksX1_fences_5 12 rfl rfl)
theorem dX1_fences_131 : decode cX1_fences 131 = .ok (.iconst (-1), 1) := dk_2 (dk_at dksX1_fences_5 13 rfl rfl)
theorem dX1_fences_132 : decode cX1_fences 132 = .ok (.invokevirtual 349, 3) := dk_182 1 93 (dk_at dksX1_fences_5 14 rfl rfl)
theorem dX1_fences_135 : decode cX1_fences 135 = .ok (.ireturn, 1) := dk_172 (dk_at dksX1_fences_5 17 rfl rfl)
theorem dX1_fences_136 : decode cX1_fences 136 = .ok (.iconst 0, 1) := dk_3 (dk_at dksX1_fences_5 18 rfl rfl)
theorem dX1_fences_137 : decode cX1_fences 137 = .ok (.istore 5, 2) := dk_54 5 (dk_at dksX1_fences_5 19 rfl rfl)
theorem dX1_fences_139 : decode cX1_fences 139 = .ok (.iload 5, 2) := dk_21 5 (dk_at dksX1_fences_5 21 rfl rfl)
theorem dX1_fences_141 : decode cX1_fences 141 = .ok (.iload_n 3, 1) := dk_29 (dk_at dksX1_fences_5 23 rfl rfl)
theorem dX1_fences_142 : decode cX1_fences 142 = .ok (.if_icmp .ge 38, 3) := dk_162 0 38 (dk_at dksX1_fences_6 0 rfl rfl)
theorem dX1_fences_145 : decode cX1_fences 145 = .ok (.aload_n 0, 1) := dk_42 (dk_at dksX1_fences_6 3 rfl rfl)
theorem dX1_fences_146 : decode cX1_fences 146 = .ok (.iload_n 1, 1) := dk_27 (dk_at dksX1_fences_6 4 rfl rfl)
theorem dX1_fences_147 : decode cX1_fences 147 = .ok (.iload_n 2, 1) := dk_28 (dk_at dksX1_fences_6 5 rfl rfl)
theorem dX1_fences_148 : decode cX1_fences 148 = .ok (.aload_n 0, 1) := dk_42 (dk_at dksX1_fences_6 6 rfl rfl)
theorem dX1_fences_149 : decode cX1_fences 149 = .ok (.iload 5, 2) := dk_21 5 (dk_at dksX1_fences_6 7 rfl rfl)
theorem dX1_fences_151 : decode cX1_fences 151 = .ok (.invokevirtual 116, 3) := dk_182 0 116 (dk_at dksX1_fences_6 9 rfl rfl)
theorem dX1_fences_154 : decode cX1_fences 154 = .ok (.iconst (-1), 1) := dk_2 (dk_at dksX1_fences_6 12 rfl rfl)
theorem dX1_fences_155 : decode cX1_fences 155 = .ok (.invokevirtual 346, 3) := dk_182 1 90 (dk_at dksX1_fences_6 13 rfl rfl)
theorem dX1_fences_158 : decode cX1_fences 158 = .ok (.ifCond .eq 16, 3) := dk_153 0 16 (dk_at dksX1_fences_6 16 rfl rfl)
theorem dX1_fences_161 : decode cX1_fences 161 = .ok (.aload_n 0, 1) := dk_42 (dk_at dksX1_fences_6 19 rfl rfl)
theorem dX1_fences_162 : decode cX1_fences 162 = .ok (.iconst 1, 1) := dk_4 (dk_at dksX1_fences_6 20 rfl rfl)
theorem dX1_fences_163 : decode cX1_fences 163 = .ok (.aload_n 0, 1) := dk_42 (dk_at dksX1_fences_6 21 rfl rfl)
theorem dX1_fences_164 : decode cX1_fences 164 = .ok (.iload 5, 2) := dk_21 5 (dk_at dksX1_fences_6 22 rfl rfl)
theorem dX1_fences_166 : decode cX1_fences 166 = .ok (.invokevirtual 116, 3) := dk_182 0 116 (dk_at dksX1_fences_7 0 rfl rfl)
theorem dX1_fences_169 : decode cX1_fences 169 = .ok (.iconst (-1), 1) := dk_2 (dk_at dksX1_fences_7 3 rfl rfl)
theorem dX1_fences_170 : decode cX1_fences 170 = .ok (.invokevirtual 349, 3) := dk_182 1 93 (dk_at dksX1_fences_7 4 rfl rfl)
theorem dX1_fences_173 : decode cX1_fences 173 = .ok (.ireturn, 1) := dk_172 (dk_at dksX1_fences_7 7 rfl rfl)
theorem dX1_fences_174 : decode cX1_fences 174 = .ok (.iinc 5 1, 3) := dk_132 5 1 (dk_at dksX1_fences_7 8 rfl rfl)
theorem dX1_fences_177 : decode cX1_fences 177 = .ok (.goto (-38), 3) := dk_167 255 218 (dk_at dksX1_fences_7 11 rfl rfl)
theorem dX1_fences_180 : decode cX1_fences 180 = .ok (.iconst 0, 1) := dk_3 (dk_at dksX1_fences_7 14 rfl rfl)
theorem dX1_fences_181 : decode cX1_fences 181 = .ok (.istore 5, 2) := dk_54 5 (dk_at dksX1_fences_7 15 rfl rfl)
theorem dX1_fences_183 : decode cX1_fences 183 = .ok (.iload 5, 2) := dk_21 5 (dk_at dksX1_fences_7 17 rfl rfl)
theorem dX1_fences_185 : decode cX1_fences 185 = .ok (.iload_n 3, 1) := dk_29 (dk_at dksX1_fences_7 19 rfl rfl)
theorem dX1_fences_186 : decode cX1_fences 186 = .ok (.if_icmp .ge 66, 3) := dk_162 0 66 (dk_at dksX1_fences_7 20 rfl rfl)
theorem dX1_fences_189 : decode cX1_fences 189 = .ok (.iload 5, 2) := dk_21 5 (dk_at dksX1_fences_8 0 rfl rfl)
theorem dX1_fences_191 : decode cX1_fences 191 = .ok (.iconst 1, 1) := dk_4 (dk_at dksX1_fences_8 2 rfl rfl)
theorem dX1_fences_192 : decode cX1_fences 192 = .ok (.iadd, 1) := dk_96 (dk_at dksX1_fences_8 3 rfl rfl)
theorem dX1_fences_193 : decode cX1_fences 193 = .ok (.istore 6, 2) := dk_54 6 (dk_at dksX1_fences_8 4 rfl rfl)
theorem dX1_fences_195 : decode cX1_fences 195 = .ok (.iload 6, 2) := dk_21 6 (dk_at dksX1_fences_8 6 rfl rfl)
theorem dX1_fences_197 : decode cX1_fences 197 = .ok (.iload_n 3, 1) := dk_29 (dk_at dksX1_fences_8 8 rfl rfl)
theorem dX1_fences_198 : decode cX1_fences 198 = .ok (.if_icmp .ge 48, 3) := dk_162 0 48 (dk_at dksX1_fences_8 9 rfl rfl)
theorem dX1_fences_201 : decode cX1_fences 201 = .ok (.aload_n 0, 1) := dk_42 (dk_at dksX1_fences_8 12 rfl rfl)
theorem dX1_fences_202 : decode cX1_fences 202 = .ok (.iload_n 1, 1) := dk_27 (dk_at dksX1_fences_8 13 rfl rfl)
theorem dX1_fences_203 : decode cX1_fences 203 = .ok (.iload_n 2, 1) := dk_28 (dk_at dksX1_fences_8 14 rfl rfl)
theorem dX1_fences_204 : decode cX1_fences 204 = .ok (.aload_n 0, 1) := dk_42 (dk_at dksX1_fences_8 15 rfl rfl)
theorem dX1_fences_205 : decode cX1_fences 205 = .ok (.iload 5, 2) := dk_21 5 (dk_at dksX1_fences_8 16 rfl rfl)
theorem dX1_fences_207 : decode cX1_fences 207 = .ok (.invokevirtual 116, 3) := dk_182 0 116 (dk_at dksX1_fences_8 18 rfl rfl)
theorem dX1_fences_210 : decode cX1_fences 210 = .ok (.aload_n 0, 1) := dk_42 (dk_at dksX1_fences_8 21 rfl rfl)
theorem dX1_fences_211 : decode cX1_fences 211 = .ok (.iload 6, 2) := dk_21 6 (dk_at dksX1_fences_8 22 rfl rfl)
theorem dX1_fences_213 : decode cX1_fences 213 = .ok (.invokevirtual 116, 3) := dk_182 0 116 (dk_at dksX1_fences_9 0 rfl rfl)
theorem dX1_fences_216 : decode cX1_fences 216 = .ok (.invokevirtual 346, 3) := dk_182 1 90 (dk_at dksX1_fences_9 3 rfl rfl)
theorem dX1_fences_219 : decode cX1_fences 219 = .ok (.ifCond .eq 21, 3) := dk_153 0 21 (dk_at dksX1_fences_9 6 rfl rfl)
theorem dX1_fences_222 : decode cX1_fences 222 = .ok (.aload_n 0, 1) := dk_42 (dk_at dksX1_fences_9 9 rfl rfl)
theorem dX1_fences_223 : decode cX1_fences 223 = .ok (.iconst 2, 1) := dk_5 (dk_at dksX1_fences_9 10 rfl rfl)
theorem dX1_fences_224 : decode cX1_fences 224 = .ok (.aload_n 0, 1) := dk_42 (dk_at dksX1_fences_9 11 rfl rfl)
theorem dX1_fences_225 : decode cX1_fences 225 = .ok (.iload 5, 2) := dk_21 5 (dk_at dksX1_fences_9 12 rfl rfl)
theorem dX1_fences_227 : decode cX1_fences 227 = .ok (.invokevirtual 116, 3) := dk_182 0 116 (dk_at dksX1_fences_9 14 rfl rfl)
theorem dX1_fences_230 : decode cX1_fences 230 = .ok (.aload_n 0, 1) := dk_42 (dk_at dksX1_fences_9 17 rfl rfl)
theorem dX1_fences_231 : decode cX1_fences 231 = .ok (.iload 6, 2) := dk_21 6 (dk_at dksX1_fences_9 18 rfl rfl)
theorem dX1_fences_233 : decode cX1_fences 233 = .ok (.invokevirtual 116, 3) := dk_182 0 116 (dk_at dksX1_fences_9 20 rfl rfl)
theorem dX1_fences_236 : decode cX1_fences 236 = .ok (.invokevirtual 349, 3) := dk_182 1 93 (dk_at dksX1_fences_10 0 rfl rfl)
theorem dX1_fences_239 : decode cX1_fences 239 = .ok (.ireturn, 1) := dk_172 (dk_at dksX1_fences_10 3 rfl rfl)
theorem dX1_fences_240 : decode cX1_fences 240 = .ok (.iinc 6 1, 3) := dk_132 6 1 (dk_at dksX1_fences_10 4 rfl rfl)
theorem dX1_fences_243 : decode cX1_fences 243 = .ok (.goto (-48), 3) := dk_167 255 208 (dk_at dksX1_fences_10 7 rfl rfl)
theorem dX1_fences_246 : decode cX1_fences 246 = .ok (.iinc 5 1, 3) := dk_132 5 1 (dk_at dksX1_fences_10 10 rfl rfl)
theorem dX1_fences_249 : decode cX1_fences 249 = .ok (.goto (-66), 3) := dk_167 255 190 (dk_at dksX1_fences_10 13 rfl rfl)
theorem dX1_fences_252 : decode cX1_fences 252 = .ok (.iconst (-1), 1) := dk_2 (dk_at dksX1_fences_10 16 rfl rfl)
theorem dX1_fences_253 : decode cX1_fences 253 = .ok (.ireturn, 1) := dk_172 (dk_at dksX1_fences_10 17 rfl rfl)
abbrev cX1_isSpared : ByteArray := prog_1_method_44_code
def yX1_isSpared : MethodName := ⟨RX1, "isSpared", "(IIII)Z"⟩
def dkwX1_isSpared_4 : List UInt8 := [154, 0, 7, 4, 167, 0, 4, 3, 172]
abbrev dktX1_isSpared_4 : List UInt8 := dkwX1_isSpared_4 ++ []
def dkwX1_isSpared_3 : List UInt8 := [42, 180, 0, 49, 42, 180, 0, 55, 182, 1, 84, 132, 6, 1, 167, 255, 224, 25, 5, 180, 0, 240, 27, 46]
abbrev dktX1_isSpared_3 : List UInt8 := dkwX1_isSpared_3 ++ dktX1_isSpared_4
def dkwX1_isSpared_2 : List UInt8 := [184, 0, 243, 3, 54, 6, 21, 6, 28, 162, 0, 32, 25, 5, 180, 0, 240, 27, 46, 154, 0, 22, 25, 5]
abbrev dktX1_isSpared_2 : List UInt8 := dkwX1_isSpared_2 ++ dktX1_isSpared_3
def dkwX1_isSpared_1 : List UInt8 := [182, 0, 252, 21, 4, 2, 159, 0, 12, 25, 5, 21, 4, 16, 6, 182, 0, 252, 25, 5, 180, 0, 240, 3]
abbrev dktX1_isSpared_1 : List UInt8 := dkwX1_isSpared_1 ++ dktX1_isSpared_2
def dkwX1_isSpared_0 : List UInt8 := [42, 180, 0, 39, 42, 180, 0, 43, 182, 1, 41, 58, 5, 29, 2, 159, 0, 11, 25, 5, 29, 16, 6]
abbrev dktX1_isSpared_0 : List UInt8 := dkwX1_isSpared_0 ++ dktX1_isSpared_1
theorem dksX1_isSpared_0 : cX1_isSpared.data.toList.drop 0 = dktX1_isSpared_0 := by decide +kernel
theorem dksX1_isSpared_1 : cX1_isSpared.data.toList.drop 23 = dktX1_isSpared_1 := dk_seg dksX1_isSpared_0 23 rfl rfl
theorem dksX1_isSpared_2 : cX1_isSpared.data.toList.drop 47 = dktX1_isSpared_2 := dk_seg dksX1_isSpared_1 24 rfl rfl
theorem dksX1_isSpared_3 : cX1_isSpared.data.toList.drop 71 = dktX1_isSpared_3 := dk_seg dksX1_isSpared_2 24 rfl rfl
theorem dksX1_isSpared_4 : cX1_isSpared.data.toList.drop 95 = dktX1_isSpared_4 := dk_seg dksX1_isSpared_3 24 rfl rfl
theorem dX1_isSpared_0 : decode cX1_isSpared 0 = .ok (.aload_n 0, 1) := dk_42 (dk_at dksX1_isSpared_0 0 rfl rfl)
theorem dX1_isSpared_1 : decode cX1_isSpared 1 = .ok (.getfield 39, 3) := dk_180 0 39 (dk_at dksX1_isSpared_0 1 rfl rfl)
theorem dX1_isSpared_4 : decode cX1_isSpared 4 = .ok (.aload_n 0, 1) := dk_42 (dk_at dksX1_isSpared_0 4 rfl rfl)
theorem dX1_isSpared_5 : decode cX1_isSpared 5 = .ok (.getfield 43, 3) := dk_180 0 43 (dk_at dksX1_isSpared_0 5 rfl rfl)
theorem dX1_isSpared_8 : decode cX1_isSpared 8 = .ok (.invokevirtual 297, 3) := dk_182 1 41 (dk_at dksX1_isSpared_0 8 rfl rfl)
theorem dX1_isSpared_11 : decode cX1_isSpared 11 = .ok (.astore 5, 2) := dk_58 5 (dk_at dksX1_isSpared_0 11 rfl rfl)
theorem dX1_isSpared_13 : decode cX1_isSpared 13 = .ok (.iload_n 3, 1) := dk_29 (dk_at dksX1_isSpared_0 13 rfl rfl)
theorem dX1_isSpared_14 : decode cX1_isSpared 14 = .ok (.iconst (-1), 1) := dk_2 (dk_at dksX1_isSpared_0 14 rfl rfl)
theorem dX1_isSpared_15 : decode cX1_isSpared 15 = .ok (.if_icmp .eq 11, 3) := dk_159 0 11 (dk_at dksX1_isSpared_0 15 rfl rfl)
theorem dX1_isSpared_18 : decode cX1_isSpared 18 = .ok (.aload 5, 2) := dk_25 5 (dk_at dksX1_isSpared_0 18 rfl rfl)
theorem dX1_isSpared_20 : decode cX1_isSpared 20 = .ok (.iload_n 3, 1) := dk_29 (dk_at dksX1_isSpared_0 20 rfl rfl)
theorem dX1_isSpared_21 : decode cX1_isSpared 21 = .ok (.bipush 6, 2) := dk_16 6 (dk_at dksX1_isSpared_0 21 rfl rfl)
theorem dX1_isSpared_23 : decode cX1_isSpared 23 = .ok (.invokevirtual 252, 3) := dk_182 0 252 (dk_at dksX1_isSpared_1 0 rfl rfl)
theorem dX1_isSpared_26 : decode cX1_isSpared 26 = .ok (.iload 4, 2) := dk_21 4 (dk_at dksX1_isSpared_1 3 rfl rfl)
theorem dX1_isSpared_28 : decode cX1_isSpared 28 = .ok (.iconst (-1), 1) := dk_2 (dk_at dksX1_isSpared_1 5 rfl rfl)
theorem dX1_isSpared_29 : decode cX1_isSpared 29 = .ok (.if_icmp .eq 12, 3) := dk_159 0 12 (dk_at dksX1_isSpared_1 6 rfl rfl)
theorem dX1_isSpared_32 : decode cX1_isSpared 32 = .ok (.aload 5, 2) := dk_25 5 (dk_at dksX1_isSpared_1 9 rfl rfl)
theorem dX1_isSpared_34 : decode cX1_isSpared 34 = .ok (.iload 4, 2) := dk_21 4 (dk_at dksX1_isSpared_1 11 rfl rfl)
theorem dX1_isSpared_36 : decode cX1_isSpared 36 = .ok (.bipush 6, 2) := dk_16 6 (dk_at dksX1_isSpared_1 13 rfl rfl)
theorem dX1_isSpared_38 : decode cX1_isSpared 38 = .ok (.invokevirtual 252, 3) := dk_182 0 252 (dk_at dksX1_isSpared_1 15 rfl rfl)
theorem dX1_isSpared_41 : decode cX1_isSpared 41 = .ok (.aload 5, 2) := dk_25 5 (dk_at dksX1_isSpared_1 18 rfl rfl)
theorem dX1_isSpared_43 : decode cX1_isSpared 43 = .ok (.getfield 240, 3) := dk_180 0 240 (dk_at dksX1_isSpared_1 20 rfl rfl)
theorem dX1_isSpared_46 : decode cX1_isSpared 46 = .ok (.iconst 0, 1) := dk_3 (dk_at dksX1_isSpared_1 23 rfl rfl)
theorem dX1_isSpared_47 : decode cX1_isSpared 47 = .ok (.invokestatic 243, 3) := dk_184 0 243 (dk_at dksX1_isSpared_2 0 rfl rfl)
theorem dX1_isSpared_50 : decode cX1_isSpared 50 = .ok (.iconst 0, 1) := dk_3 (dk_at dksX1_isSpared_2 3 rfl rfl)
theorem dX1_isSpared_51 : decode cX1_isSpared 51 = .ok (.istore 6, 2) := dk_54 6 (dk_at dksX1_isSpared_2 4 rfl rfl)
theorem dX1_isSpared_53 : decode cX1_isSpared 53 = .ok (.iload 6, 2) := dk_21 6 (dk_at dksX1_isSpared_2 6 rfl rfl)
theorem dX1_isSpared_55 : decode cX1_isSpared 55 = .ok (.iload_n 2, 1) := dk_28 (dk_at dksX1_isSpared_2 8 rfl rfl)
theorem dX1_isSpared_56 : decode cX1_isSpared 56 = .ok (.if_icmp .ge 32, 3) := dk_162 0 32 (dk_at dksX1_isSpared_2 9 rfl rfl)
theorem dX1_isSpared_59 : decode cX1_isSpared 59 = .ok (.aload 5, 2) := dk_25 5 (dk_at dksX1_isSpared_2 12 rfl rfl)
theorem dX1_isSpared_61 : decode cX1_isSpared 61 = .ok (.getfield 240, 3) := dk_180 0 240 (dk_at dksX1_isSpared_2 14 rfl rfl)
theorem dX1_isSpared_64 : decode cX1_isSpared 64 = .ok (.iload_n 1, 1) := dk_27 (dk_at dksX1_isSpared_2 17 rfl rfl)
theorem dX1_isSpared_65 : decode cX1_isSpared 65 = .ok (.iaload, 1) := dk_46 (dk_at dksX1_isSpared_2 18 rfl rfl)
theorem dX1_isSpared_66 : decode cX1_isSpared 66 = .ok (.ifCond .ne 22, 3) := dk_154 0 22 (dk_at dksX1_isSpared_2 19 rfl rfl)
theorem dX1_isSpared_69 : decode cX1_isSpared 69 = .ok (.aload 5, 2) := dk_25 5 (dk_at dksX1_isSpared_2 22 rfl rfl)
theorem dX1_isSpared_71 : decode cX1_isSpared 71 = .ok (.aload_n 0, 1) := dk_42 (dk_at dksX1_isSpared_3 0 rfl rfl)
theorem dX1_isSpared_72 : decode cX1_isSpared 72 = .ok (.getfield 49, 3) := dk_180 0 49 (dk_at dksX1_isSpared_3 1 rfl rfl)
theorem dX1_isSpared_75 : decode cX1_isSpared 75 = .ok (.aload_n 0, 1) := dk_42 (dk_at dksX1_isSpared_3 4 rfl rfl)
theorem dX1_isSpared_76 : decode cX1_isSpared 76 = .ok (.getfield 55, 3) := dk_180 0 55 (dk_at dksX1_isSpared_3 5 rfl rfl)
theorem dX1_isSpared_79 : decode cX1_isSpared 79 = .ok (.invokevirtual 340, 3) := dk_182 1 84 (dk_at dksX1_isSpared_3 8 rfl rfl)
theorem dX1_isSpared_82 : decode cX1_isSpared 82 = .ok (.iinc 6 1, 3) := dk_132 6 1 (dk_at dksX1_isSpared_3 11 rfl rfl)
theorem dX1_isSpared_85 : decode cX1_isSpared 85 = .ok (.goto (-32), 3) := dk_167 255 224 (dk_at dksX1_isSpared_3 14 rfl rfl)
theorem dX1_isSpared_88 : decode cX1_isSpared 88 = .ok (.aload 5, 2) := dk_25 5 (dk_at dksX1_isSpared_3 17 rfl rfl)
theorem dX1_isSpared_90 : decode cX1_isSpared 90 = .ok (.getfield 240, 3) := dk_180 0 240 (dk_at dksX1_isSpared_3 19 rfl rfl)
theorem dX1_isSpared_93 : decode cX1_isSpared 93 = .ok (.iload_n 1, 1) := dk_27 (dk_at dksX1_isSpared_3 22 rfl rfl)
theorem dX1_isSpared_94 : decode cX1_isSpared 94 = .ok (.iaload, 1) := dk_46 (dk_at dksX1_isSpared_3 23 rfl rfl)
theorem dX1_isSpared_95 : decode cX1_isSpared 95 = .ok (.ifCond .ne 7, 3) := dk_154 0 7 (dk_at dksX1_isSpared_4 0 rfl rfl)
theorem dX1_isSpared_98 : decode cX1_isSpared 98 = .ok (.iconst 1, 1) := dk_4 (dk_at dksX1_isSpared_4 3 rfl rfl)
theorem dX1_isSpared_99 : decode cX1_isSpared 99 = .ok (.goto 4, 3) := dk_167 0 4 (dk_at dksX1_isSpared_4 4 rfl rfl)
theorem dX1_isSpared_102 : decode cX1_isSpared 102 = .ok (.iconst 0, 1) := dk_3 (dk_at dksX1_isSpared_4 7 rfl rfl)
theorem dX1_isSpared_103 : decode cX1_isSpared 103 = .ok (.ireturn, 1) := dk_172 (dk_at dksX1_isSpared_4 8 rfl rfl)
abbrev cX1_fence : ByteArray := prog_1_method_45_code
def yX1_fence : MethodName := ⟨RX1, "fence", "(III)I"⟩
def dkwX1_fence_0 : List UInt8 := [42, 27, 181, 1, 87, 42, 180, 0, 73, 3, 28, 79, 42, 180, 0, 73, 4, 29, 79, 27, 172]
abbrev dktX1_fence_0 : List UInt8 := dkwX1_fence_0 ++ []
theorem dksX1_fence_0 : cX1_fence.data.toList.drop 0 = dktX1_fence_0 := by decide +kernel
theorem dX1_fence_0 : decode cX1_fence 0 = .ok (.aload_n 0, 1) := dk_42 (dk_at dksX1_fence_0 0 rfl rfl)
theorem dX1_fence_1 : decode cX1_fence 1 = .ok (.iload_n 1, 1) := dk_27 (dk_at dksX1_fence_0 1 rfl rfl)
theorem dX1_fence_2 : decode cX1_fence 2 = .ok (.putfield 343, 3) := dk_181 1 87 (dk_at dksX1_fence_0 2 rfl rfl)
theorem dX1_fence_5 : decode cX1_fence 5 = .ok (.aload_n 0, 1) := dk_42 (dk_at dksX1_fence_0 5 rfl rfl)
theorem dX1_fence_6 : decode cX1_fence 6 = .ok (.getfield 73, 3) := dk_180 0 73 (dk_at dksX1_fence_0 6 rfl rfl)
theorem dX1_fence_9 : decode cX1_fence 9 = .ok (.iconst 0, 1) := dk_3 (dk_at dksX1_fence_0 9 rfl rfl)
theorem dX1_fence_10 : decode cX1_fence 10 = .ok (.iload_n 2, 1) := dk_28 (dk_at dksX1_fence_0 10 rfl rfl)
theorem dX1_fence_11 : decode cX1_fence 11 = .ok (.iastore, 1) := dk_79 (dk_at dksX1_fence_0 11 rfl rfl)
theorem dX1_fence_12 : decode cX1_fence 12 = .ok (.aload_n 0, 1) := dk_42 (dk_at dksX1_fence_0 12 rfl rfl)
theorem dX1_fence_13 : decode cX1_fence 13 = .ok (.getfield 73, 3) := dk_180 0 73 (dk_at dksX1_fence_0 13 rfl rfl)
theorem dX1_fence_16 : decode cX1_fence 16 = .ok (.iconst 1, 1) := dk_4 (dk_at dksX1_fence_0 16 rfl rfl)
theorem dX1_fence_17 : decode cX1_fence 17 = .ok (.iload_n 3, 1) := dk_29 (dk_at dksX1_fence_0 17 rfl rfl)
theorem dX1_fence_18 : decode cX1_fence 18 = .ok (.iastore, 1) := dk_79 (dk_at dksX1_fence_0 18 rfl rfl)
theorem dX1_fence_19 : decode cX1_fence 19 = .ok (.iload_n 1, 1) := dk_27 (dk_at dksX1_fence_0 19 rfl rfl)
theorem dX1_fence_20 : decode cX1_fence 20 = .ok (.ireturn, 1) := dk_172 (dk_at dksX1_fence_0 20 rfl rfl)
abbrev cX1_fenceAt : ByteArray := prog_1_method_47_code
def yX1_fenceAt : MethodName := ⟨RX1, "fenceAt", "(I)I"⟩
def dkwX1_fenceAt_1 : List UInt8 := [172]
abbrev dktX1_fenceAt_1 : List UInt8 := dkwX1_fenceAt_1 ++ []
def dkwX1_fenceAt_0 : List UInt8 := [27, 3, 42, 180, 1, 87, 4, 100, 184, 0, 112, 153, 0, 12, 42, 180, 0, 73, 27, 46, 167, 0, 4, 2]
abbrev dktX1_fenceAt_0 : List UInt8 := dkwX1_fenceAt_0 ++ dktX1_fenceAt_1
theorem dksX1_fenceAt_0 : cX1_fenceAt.data.toList.drop 0 = dktX1_fenceAt_0 := by decide +kernel
theorem dksX1_fenceAt_1 : cX1_fenceAt.data.toList.drop 24 = dktX1_fenceAt_1 := dk_seg dksX1_fenceAt_0 24 rfl rfl
theorem dX1_fenceAt_0 : decode cX1_fenceAt 0 = .ok (.iload_n 1, 1) := dk_27 (dk_at dksX1_fenceAt_0 0 rfl rfl)
theorem dX1_fenceAt_1 : decode cX1_fenceAt 1 = .ok (.iconst 0, 1) := dk_3 (dk_at dksX1_fenceAt_0 1 rfl rfl)
theorem dX1_fenceAt_2 : decode cX1_fenceAt 2 = .ok (.aload_n 0, 1) := dk_42 (dk_at dksX1_fenceAt_0 2 rfl rfl)
theorem dX1_fenceAt_3 : decode cX1_fenceAt 3 = .ok (.getfield 343, 3) := dk_180 1 87 (dk_at dksX1_fenceAt_0 3 rfl rfl)
theorem dX1_fenceAt_6 : decode cX1_fenceAt 6 = .ok (.iconst 1, 1) := dk_4 (dk_at dksX1_fenceAt_0 6 rfl rfl)
theorem dX1_fenceAt_7 : decode cX1_fenceAt 7 = .ok (.isub, 1) := dk_100 (dk_at dksX1_fenceAt_0 7 rfl rfl)
theorem dX1_fenceAt_8 : decode cX1_fenceAt 8 = .ok (.invokestatic 112, 3) := dk_184 0 112 (dk_at dksX1_fenceAt_0 8 rfl rfl)
theorem dX1_fenceAt_11 : decode cX1_fenceAt 11 = .ok (.ifCond .eq 12, 3) := dk_153 0 12 (dk_at dksX1_fenceAt_0 11 rfl rfl)
theorem dX1_fenceAt_14 : decode cX1_fenceAt 14 = .ok (.aload_n 0, 1) := dk_42 (dk_at dksX1_fenceAt_0 14 rfl rfl)
theorem dX1_fenceAt_15 : decode cX1_fenceAt 15 = .ok (.getfield 73, 3) := dk_180 0 73 (dk_at dksX1_fenceAt_0 15 rfl rfl)
theorem dX1_fenceAt_18 : decode cX1_fenceAt 18 = .ok (.iload_n 1, 1) := dk_27 (dk_at dksX1_fenceAt_0 18 rfl rfl)
theorem dX1_fenceAt_19 : decode cX1_fenceAt 19 = .ok (.iaload, 1) := dk_46 (dk_at dksX1_fenceAt_0 19 rfl rfl)
theorem dX1_fenceAt_20 : decode cX1_fenceAt 20 = .ok (.goto 4, 3) := dk_167 0 4 (dk_at dksX1_fenceAt_0 20 rfl rfl)
theorem dX1_fenceAt_23 : decode cX1_fenceAt 23 = .ok (.iconst (-1), 1) := dk_2 (dk_at dksX1_fenceAt_0 23 rfl rfl)
theorem dX1_fenceAt_24 : decode cX1_fenceAt 24 = .ok (.ireturn, 1) := dk_172 (dk_at dksX1_fenceAt_1 0 rfl rfl)
abbrev cX1_lasts : ByteArray := prog_1_method_48_code
def yX1_lasts : MethodName := ⟨RX1, "lasts", "(IIII)I"⟩
def dkwX1_lasts_5 : List UInt8 := [21, 6, 172, 132, 6, 1, 167, 255, 216, 2, 172]
abbrev dktX1_lasts_5 : List UInt8 := dkwX1_lasts_5 ++ []
def dkwX1_lasts_4 : List UInt8 := [180, 0, 49, 42, 180, 0, 55, 182, 1, 49, 25, 5, 42, 180, 0, 49, 28, 182, 1, 13, 154, 0, 6]
abbrev dktX1_lasts_4 : List UInt8 := dkwX1_lasts_4 ++ dktX1_lasts_5
def dkwX1_lasts_3 : List UInt8 := [182, 0, 9, 192, 0, 191, 4, 181, 0, 200, 4, 54, 6, 21, 6, 29, 163, 0, 40, 25, 5, 21, 4, 42]
abbrev dktX1_lasts_3 : List UInt8 := dkwX1_lasts_3 ++ dktX1_lasts_4
def dkwX1_lasts_2 : List UInt8 := [154, 0, 5, 3, 172, 42, 180, 0, 39, 42, 180, 0, 43, 182, 1, 41, 58, 5, 25, 5, 180, 0, 182, 27]
abbrev dktX1_lasts_2 : List UInt8 := dkwX1_lasts_2 ++ dktX1_lasts_3
def dkwX1_lasts_1 : List UInt8 := [17, 0, 200, 184, 1, 37, 154, 0, 6, 16, 254, 172, 42, 180, 0, 39, 42, 180, 0, 49, 28, 182, 1, 13]
abbrev dktX1_lasts_1 : List UInt8 := dkwX1_lasts_1 ++ dktX1_lasts_2
def dkwX1_lasts_0 : List UInt8 := [42, 27, 182, 0, 204, 153, 0, 28, 42, 180, 0, 39, 28, 182, 0, 139, 153, 0, 17, 29, 16, 40, 21, 4]
abbrev dktX1_lasts_0 : List UInt8 := dkwX1_lasts_0 ++ dktX1_lasts_1
theorem dksX1_lasts_0 : cX1_lasts.data.toList.drop 0 = dktX1_lasts_0 := by decide +kernel
theorem dksX1_lasts_1 : cX1_lasts.data.toList.drop 24 = dktX1_lasts_1 := dk_seg dksX1_lasts_0 24 rfl rfl
theorem dksX1_lasts_2 : cX1_lasts.data.toList.drop 48 = dktX1_lasts_2 := dk_seg dksX1_lasts_1 24 rfl rfl
theorem dksX1_lasts_3 : cX1_lasts.data.toList.drop 72 = dktX1_lasts_3 := dk_seg dksX1_lasts_2 24 rfl rfl
theorem dksX1_lasts_4 : cX1_lasts.data.toList.drop 96 = dktX1_lasts_4 := dk_seg dksX1_lasts_3 24 rfl rfl
theorem dksX1_lasts_5 : cX1_lasts.data.toList.drop 119 = dktX1_lasts_5 := dk_seg dksX1_lasts_4 23 rfl rfl
theorem dX1_lasts_0 : decode cX1_lasts 0 = .ok (.aload_n 0, 1) := dk_42 (dk_at dksX1_lasts_0 0 rfl rfl)
theorem dX1_lasts_1 : decode cX1_lasts 1 = .ok (.iload_n 1, 1) := dk_27 (dk_at dksX1_lasts_0 1 rfl rfl)
theorem dX1_lasts_2 : decode cX1_lasts 2 = .ok (.invokevirtual 204, 3) := dk_182 0 204 (dk_at dksX1_lasts_0 2 rfl rfl)
theorem dX1_lasts_5 : decode cX1_lasts 5 = .ok (.ifCond .eq 28, 3) := dk_153 0 28 (dk_at dksX1_lasts_0 5 rfl rfl)
theorem dX1_lasts_8 : decode cX1_lasts 8 = .ok (.aload_n 0, 1) := dk_42 (dk_at dksX1_lasts_0 8 rfl rfl)
theorem dX1_lasts_9 : decode cX1_lasts 9 = .ok (.getfield 39, 3) := dk_180 0 39 (dk_at dksX1_lasts_0 9 rfl rfl)
theorem dX1_lasts_12 : decode cX1_lasts 12 = .ok (.iload_n 2, 1) := dk_28 (dk_at dksX1_lasts_0 12 rfl rfl)
theorem dX1_lasts_13 : decode cX1_lasts 13 = .ok (.invokevirtual 139, 3) := dk_182 0 139 (dk_at dksX1_lasts_0 13 rfl rfl)
theorem dX1_lasts_16 : decode cX1_lasts 16 = .ok (.ifCond .eq 17, 3) := dk_153 0 17 (dk_at dksX1_lasts_0 16 rfl rfl)
theorem dX1_lasts_19 : decode cX1_lasts 19 = .ok (.iload_n 3, 1) := dk_29 (dk_at dksX1_lasts_0 19 rfl rfl)
theorem dX1_lasts_20 : decode cX1_lasts 20 = .ok (.bipush 40, 2) := dk_16 40 (dk_at dksX1_lasts_0 20 rfl rfl)
theorem dX1_lasts_22 : decode cX1_lasts 22 = .ok (.iload 4, 2) := dk_21 4 (dk_at dksX1_lasts_0 22 rfl rfl)
theorem dX1_lasts_24 : decode cX1_lasts 24 = .ok (.sipush 200, 3) := dk_17 0 200 (dk_at dksX1_lasts_1 0 rfl rfl)
theorem dX1_lasts_27 : decode cX1_lasts 27 = .ok (.invokestatic 293, 3) := dk_184 1 37 (dk_at dksX1_lasts_1 3 rfl rfl)
theorem dX1_lasts_30 : decode cX1_lasts 30 = .ok (.ifCond .ne 6, 3) := dk_154 0 6 (dk_at dksX1_lasts_1 6 rfl rfl)
theorem dX1_lasts_33 : decode cX1_lasts 33 = .ok (.bipush (-2), 2) := dk_16 254 (dk_at dksX1_lasts_1 9 rfl rfl)
theorem dX1_lasts_35 : decode cX1_lasts 35 = .ok (.ireturn, 1) := dk_172 (dk_at dksX1_lasts_1 11 rfl rfl)
theorem dX1_lasts_36 : decode cX1_lasts 36 = .ok (.aload_n 0, 1) := dk_42 (dk_at dksX1_lasts_1 12 rfl rfl)
theorem dX1_lasts_37 : decode cX1_lasts 37 = .ok (.getfield 39, 3) := dk_180 0 39 (dk_at dksX1_lasts_1 13 rfl rfl)
theorem dX1_lasts_40 : decode cX1_lasts 40 = .ok (.aload_n 0, 1) := dk_42 (dk_at dksX1_lasts_1 16 rfl rfl)
theorem dX1_lasts_41 : decode cX1_lasts 41 = .ok (.getfield 49, 3) := dk_180 0 49 (dk_at dksX1_lasts_1 17 rfl rfl)
theorem dX1_lasts_44 : decode cX1_lasts 44 = .ok (.iload_n 2, 1) := dk_28 (dk_at dksX1_lasts_1 20 rfl rfl)
theorem dX1_lasts_45 : decode cX1_lasts 45 = .ok (.invokevirtual 269, 3) := dk_182 1 13 (dk_at dksX1_lasts_1 21 rfl rfl)
theorem dX1_lasts_48 : decode cX1_lasts 48 = .ok (.ifCond .ne 5, 3) := dk_154 0 5 (dk_at dksX1_lasts_2 0 rfl rfl)
theorem dX1_lasts_51 : decode cX1_lasts 51 = .ok (.iconst 0, 1) := dk_3 (dk_at dksX1_lasts_2 3 rfl rfl)
theorem dX1_lasts_52 : decode cX1_lasts 52 = .ok (.ireturn, 1) := dk_172 (dk_at dksX1_lasts_2 4 rfl rfl)
theorem dX1_lasts_53 : decode cX1_lasts 53 = .ok (.aload_n 0, 1) := dk_42 (dk_at dksX1_lasts_2 5 rfl rfl)
theorem dX1_lasts_54 : decode cX1_lasts 54 = .ok (.getfield 39, 3) := dk_180 0 39 (dk_at dksX1_lasts_2 6 rfl rfl)
theorem dX1_lasts_57 : decode cX1_lasts 57 = .ok (.aload_n 0, 1) := dk_42 (dk_at dksX1_lasts_2 9 rfl rfl)
theorem dX1_lasts_58 : decode cX1_lasts 58 = .ok (.getfield 43, 3) := dk_180 0 43 (dk_at dksX1_lasts_2 10 rfl rfl)
theorem dX1_lasts_61 : decode cX1_lasts 61 = .ok (.invokevirtual 297, 3) := dk_182 1 41 (dk_at dksX1_lasts_2 13 rfl rfl)
theorem dX1_lasts_64 : decode cX1_lasts 64 = .ok (.astore 5, 2) := dk_58 5 (dk_at dksX1_lasts_2 16 rfl rfl)
theorem dX1_lasts_66 : decode cX1_lasts 66 = .ok (.aload 5, 2) := dk_25 5 (dk_at dksX1_lasts_2 18 rfl rfl)
theorem dX1_lasts_68 : decode cX1_lasts 68 = .ok (.getfield 182, 3) := dk_180 0 182 (dk_at dksX1_lasts_2 20 rfl rfl)
theorem dX1_lasts_71 : decode cX1_lasts 71 = .ok (.iload_n 1, 1) := dk_27 (dk_at dksX1_lasts_2 23 rfl rfl)
theorem dX1_lasts_72 : decode cX1_lasts 72 = .ok (.invokevirtual 9, 3) := dk_182 0 9 (dk_at dksX1_lasts_3 0 rfl rfl)
theorem dX1_lasts_75 : decode cX1_lasts 75 = .ok (.checkcast 191, 3) := dk_192 0 191 (dk_at dksX1_lasts_3 3 rfl rfl)
theorem dX1_lasts_78 : decode cX1_lasts 78 = .ok (.iconst 1, 1) := dk_4 (dk_at dksX1_lasts_3 6 rfl rfl)
theorem dX1_lasts_79 : decode cX1_lasts 79 = .ok (.putfield 200, 3) := dk_181 0 200 (dk_at dksX1_lasts_3 7 rfl rfl)
theorem dX1_lasts_82 : decode cX1_lasts 82 = .ok (.iconst 1, 1) := dk_4 (dk_at dksX1_lasts_3 10 rfl rfl)
theorem dX1_lasts_83 : decode cX1_lasts 83 = .ok (.istore 6, 2) := dk_54 6 (dk_at dksX1_lasts_3 11 rfl rfl)
theorem dX1_lasts_85 : decode cX1_lasts 85 = .ok (.iload 6, 2) := dk_21 6 (dk_at dksX1_lasts_3 13 rfl rfl)
theorem dX1_lasts_87 : decode cX1_lasts 87 = .ok (.iload_n 3, 1) := dk_29 (dk_at dksX1_lasts_3 15 rfl rfl)
theorem dX1_lasts_88 : decode cX1_lasts 88 = .ok (.if_icmp .gt 40, 3) := dk_163 0 40 (dk_at dksX1_lasts_3 16 rfl rfl)
theorem dX1_lasts_91 : decode cX1_lasts 91 = .ok (.aload 5, 2) := dk_25 5 (dk_at dksX1_lasts_3 19 rfl rfl)
theorem dX1_lasts_93 : decode cX1_lasts 93 = .ok (.iload 4, 2) := dk_21 4 (dk_at dksX1_lasts_3 21 rfl rfl)
theorem dX1_lasts_95 : decode cX1_lasts 95 = .ok (.aload_n 0, 1) := dk_42 (dk_at dksX1_lasts_3 23 rfl rfl)
theorem dX1_lasts_96 : decode cX1_lasts 96 = .ok (.getfield 49, 3) := dk_180 0 49 (dk_at dksX1_lasts_4 0 rfl rfl)
theorem dX1_lasts_99 : decode cX1_lasts 99 = .ok (.aload_n 0, 1) := dk_42 (dk_at dksX1_lasts_4 3 rfl rfl)
theorem dX1_lasts_100 : decode cX1_lasts 100 = .ok (.getfield 55, 3) := dk_180 0 55 (dk_at dksX1_lasts_4 4 rfl rfl)
theorem dX1_lasts_103 : decode cX1_lasts 103 = .ok (.invokevirtual 305, 3) := dk_182 1 49 (dk_at dksX1_lasts_4 7 rfl rfl)
theorem dX1_lasts_106 : decode cX1_lasts 106 = .ok (.aload 5, 2) := dk_25 5 (dk_at dksX1_lasts_4 10 rfl rfl)
theorem dX1_lasts_108 : decode cX1_lasts 108 = .ok (.aload_n 0, 1) := dk_42 (dk_at dksX1_lasts_4 12 rfl rfl)
theorem dX1_lasts_109 : decode cX1_lasts 109 = .ok (.getfield 49, 3) := dk_180 0 49 (dk_at dksX1_lasts_4 13 rfl rfl)
theorem dX1_lasts_112 : decode cX1_lasts 112 = .ok (.iload_n 2, 1) := dk_28 (dk_at dksX1_lasts_4 16 rfl rfl)
theorem dX1_lasts_113 : decode cX1_lasts 113 = .ok (.invokevirtual 269, 3) := dk_182 1 13 (dk_at dksX1_lasts_4 17 rfl rfl)
theorem dX1_lasts_116 : decode cX1_lasts 116 = .ok (.ifCond .ne 6, 3) := dk_154 0 6 (dk_at dksX1_lasts_4 20 rfl rfl)
theorem dX1_lasts_119 : decode cX1_lasts 119 = .ok (.iload 6, 2) := dk_21 6 (dk_at dksX1_lasts_5 0 rfl rfl)
theorem dX1_lasts_121 : decode cX1_lasts 121 = .ok (.ireturn, 1) := dk_172 (dk_at dksX1_lasts_5 2 rfl rfl)
theorem dX1_lasts_122 : decode cX1_lasts 122 = .ok (.iinc 6 1, 3) := dk_132 6 1 (dk_at dksX1_lasts_5 3 rfl rfl)
theorem dX1_lasts_125 : decode cX1_lasts 125 = .ok (.goto (-40), 3) := dk_167 255 216 (dk_at dksX1_lasts_5 6 rfl rfl)
theorem dX1_lasts_128 : decode cX1_lasts 128 = .ok (.iconst (-1), 1) := dk_2 (dk_at dksX1_lasts_5 9 rfl rfl)
theorem dX1_lasts_129 : decode cX1_lasts 129 = .ok (.ireturn, 1) := dk_172 (dk_at dksX1_lasts_5 10 rfl rfl)
abbrev cX1_way : ByteArray := prog_1_method_50_code
def yX1_way : MethodName := ⟨RX1, "way", "(III)I"⟩
def dkwX1_way_2 : List UInt8 := [180, 1, 103, 4, 96, 184, 1, 56, 21, 4, 153, 0, 10, 42, 180, 0, 83, 167, 0, 4, 2, 172]
abbrev dktX1_way_2 : List UInt8 := dkwX1_way_2 ++ []
def dkwX1_way_1 : List UInt8 := [182, 1, 113, 54, 4, 42, 42, 180, 1, 103, 181, 0, 83, 42, 180, 0, 80, 3, 42, 180, 0, 77, 3, 42]
abbrev dktX1_way_1 : List UInt8 := dkwX1_way_1 ++ dktX1_way_2
def dkwX1_way_0 : List UInt8 := [42, 27, 28, 182, 0, 186, 153, 0, 10, 29, 184, 0, 174, 154, 0, 6, 16, 254, 172, 42, 27, 28, 29]
abbrev dktX1_way_0 : List UInt8 := dkwX1_way_0 ++ dktX1_way_1
theorem dksX1_way_0 : cX1_way.data.toList.drop 0 = dktX1_way_0 := by decide +kernel
theorem dksX1_way_1 : cX1_way.data.toList.drop 23 = dktX1_way_1 := dk_seg dksX1_way_0 23 rfl rfl
theorem dksX1_way_2 : cX1_way.data.toList.drop 47 = dktX1_way_2 := dk_seg dksX1_way_1 24 rfl rfl
theorem dX1_way_0 : decode cX1_way 0 = .ok (.aload_n 0, 1) := dk_42 (dk_at dksX1_way_0 0 rfl rfl)
theorem dX1_way_1 : decode cX1_way 1 = .ok (.iload_n 1, 1) := dk_27 (dk_at dksX1_way_0 1 rfl rfl)
theorem dX1_way_2 : decode cX1_way 2 = .ok (.iload_n 2, 1) := dk_28 (dk_at dksX1_way_0 2 rfl rfl)
theorem dX1_way_3 : decode cX1_way 3 = .ok (.invokevirtual 186, 3) := dk_182 0 186 (dk_at dksX1_way_0 3 rfl rfl)
theorem dX1_way_6 : decode cX1_way 6 = .ok (.ifCond .eq 10, 3) := dk_153 0 10 (dk_at dksX1_way_0 6 rfl rfl)
theorem dX1_way_9 : decode cX1_way 9 = .ok (.iload_n 3, 1) := dk_29 (dk_at dksX1_way_0 9 rfl rfl)
theorem dX1_way_10 : decode cX1_way 10 = .ok (.invokestatic 174, 3) := dk_184 0 174 (dk_at dksX1_way_0 10 rfl rfl)
theorem dX1_way_13 : decode cX1_way 13 = .ok (.ifCond .ne 6, 3) := dk_154 0 6 (dk_at dksX1_way_0 13 rfl rfl)
theorem dX1_way_16 : decode cX1_way 16 = .ok (.bipush (-2), 2) := dk_16 254 (dk_at dksX1_way_0 16 rfl rfl)
theorem dX1_way_18 : decode cX1_way 18 = .ok (.ireturn, 1) := dk_172 (dk_at dksX1_way_0 18 rfl rfl)
theorem dX1_way_19 : decode cX1_way 19 = .ok (.aload_n 0, 1) := dk_42 (dk_at dksX1_way_0 19 rfl rfl)
theorem dX1_way_20 : decode cX1_way 20 = .ok (.iload_n 1, 1) := dk_27 (dk_at dksX1_way_0 20 rfl rfl)
theorem dX1_way_21 : decode cX1_way 21 = .ok (.iload_n 2, 1) := dk_28 (dk_at dksX1_way_0 21 rfl rfl)
theorem dX1_way_22 : decode cX1_way 22 = .ok (.iload_n 3, 1) := dk_29 (dk_at dksX1_way_0 22 rfl rfl)
theorem dX1_way_23 : decode cX1_way 23 = .ok (.invokevirtual 369, 3) := dk_182 1 113 (dk_at dksX1_way_1 0 rfl rfl)
theorem dX1_way_26 : decode cX1_way 26 = .ok (.istore 4, 2) := dk_54 4 (dk_at dksX1_way_1 3 rfl rfl)
theorem dX1_way_28 : decode cX1_way 28 = .ok (.aload_n 0, 1) := dk_42 (dk_at dksX1_way_1 5 rfl rfl)
theorem dX1_way_29 : decode cX1_way 29 = .ok (.aload_n 0, 1) := dk_42 (dk_at dksX1_way_1 6 rfl rfl)
theorem dX1_way_30 : decode cX1_way 30 = .ok (.getfield 359, 3) := dk_180 1 103 (dk_at dksX1_way_1 7 rfl rfl)
theorem dX1_way_33 : decode cX1_way 33 = .ok (.putfield 83, 3) := dk_181 0 83 (dk_at dksX1_way_1 10 rfl rfl)
theorem dX1_way_36 : decode cX1_way 36 = .ok (.aload_n 0, 1) := dk_42 (dk_at dksX1_way_1 13 rfl rfl)
theorem dX1_way_37 : decode cX1_way 37 = .ok (.getfield 80, 3) := dk_180 0 80 (dk_at dksX1_way_1 14 rfl rfl)
theorem dX1_way_40 : decode cX1_way 40 = .ok (.iconst 0, 1) := dk_3 (dk_at dksX1_way_1 17 rfl rfl)
theorem dX1_way_41 : decode cX1_way 41 = .ok (.aload_n 0, 1) := dk_42 (dk_at dksX1_way_1 18 rfl rfl)
theorem dX1_way_42 : decode cX1_way 42 = .ok (.getfield 77, 3) := dk_180 0 77 (dk_at dksX1_way_1 19 rfl rfl)
theorem dX1_way_45 : decode cX1_way 45 = .ok (.iconst 0, 1) := dk_3 (dk_at dksX1_way_1 22 rfl rfl)
theorem dX1_way_46 : decode cX1_way 46 = .ok (.aload_n 0, 1) := dk_42 (dk_at dksX1_way_1 23 rfl rfl)
theorem dX1_way_47 : decode cX1_way 47 = .ok (.getfield 359, 3) := dk_180 1 103 (dk_at dksX1_way_2 0 rfl rfl)
theorem dX1_way_50 : decode cX1_way 50 = .ok (.iconst 1, 1) := dk_4 (dk_at dksX1_way_2 3 rfl rfl)
theorem dX1_way_51 : decode cX1_way 51 = .ok (.iadd, 1) := dk_96 (dk_at dksX1_way_2 4 rfl rfl)
theorem dX1_way_52 : decode cX1_way 52 = .ok (.invokestatic 312, 3) := dk_184 1 56 (dk_at dksX1_way_2 5 rfl rfl)
theorem dX1_way_55 : decode cX1_way 55 = .ok (.iload 4, 2) := dk_21 4 (dk_at dksX1_way_2 8 rfl rfl)
theorem dX1_way_57 : decode cX1_way 57 = .ok (.ifCond .eq 10, 3) := dk_153 0 10 (dk_at dksX1_way_2 10 rfl rfl)
theorem dX1_way_60 : decode cX1_way 60 = .ok (.aload_n 0, 1) := dk_42 (dk_at dksX1_way_2 13 rfl rfl)
theorem dX1_way_61 : decode cX1_way 61 = .ok (.getfield 83, 3) := dk_180 0 83 (dk_at dksX1_way_2 14 rfl rfl)
theorem dX1_way_64 : decode cX1_way 64 = .ok (.goto 4, 3) := dk_167 0 4 (dk_at dksX1_way_2 17 rfl rfl)
theorem dX1_way_67 : decode cX1_way 67 = .ok (.iconst (-1), 1) := dk_2 (dk_at dksX1_way_2 20 rfl rfl)
theorem dX1_way_68 : decode cX1_way 68 = .ok (.ireturn, 1) := dk_172 (dk_at dksX1_way_2 21 rfl rfl)
abbrev cX1_goes : ByteArray := prog_1_method_49_code
def yX1_goes : MethodName := ⟨RX1, "goes", "(III)Z"⟩
def dkwX1_goes_7 : List UInt8 := [167, 0, 4, 3, 172]
abbrev dktX1_goes_7 : List UInt8 := dkwX1_goes_7 ++ []
def dkwX1_goes_6 : List UInt8 := [167, 255, 185, 25, 4, 25, 5, 181, 1, 20, 25, 6, 180, 1, 25, 25, 6, 180, 1, 106, 160, 0, 7, 4]
abbrev dktX1_goes_6 : List UInt8 := dkwX1_goes_6 ++ dktX1_goes_7
def dkwX1_goes_5 : List UInt8 := [89, 180, 1, 103, 4, 96, 181, 1, 103, 42, 180, 0, 80, 42, 180, 1, 103, 25, 6, 180, 1, 25, 79]
abbrev dktX1_goes_5 : List UInt8 := dkwX1_goes_5 ++ dktX1_goes_6
def dkwX1_goes_4 : List UInt8 := [25, 4, 25, 6, 42, 180, 0, 55, 29, 50, 42, 180, 0, 49, 182, 1, 109, 154, 0, 6, 167, 255, 212, 42]
abbrev dktX1_goes_4 : List UInt8 := dkwX1_goes_4 ++ dktX1_goes_5
def dkwX1_goes_3 : List UInt8 := [25, 6, 180, 1, 25, 25, 6, 180, 1, 106, 159, 0, 64, 25, 6, 180, 1, 31, 17, 0, 200, 162, 0, 53]
abbrev dktX1_goes_3 : List UInt8 := dkwX1_goes_3 ++ dktX1_goes_4
def dkwX1_goes_2 : List UInt8 := [29, 2, 182, 1, 99, 58, 6, 42, 3, 181, 1, 103, 42, 180, 0, 80, 3, 25, 6, 180, 1, 25, 79]
abbrev dktX1_goes_2 : List UInt8 := dkwX1_goes_2 ++ dktX1_goes_3
def dkwX1_goes_1 : List UInt8 := [181, 1, 20, 187, 1, 23, 89, 183, 1, 98, 25, 4, 180, 0, 149, 27, 46, 25, 4, 180, 0, 149, 28, 46]
abbrev dktX1_goes_1 : List UInt8 := dkwX1_goes_1 ++ dktX1_goes_2
def dkwX1_goes_0 : List UInt8 := [42, 180, 0, 39, 58, 4, 25, 4, 180, 1, 20, 58, 5, 25, 4, 187, 0, 4, 89, 183, 1, 97]
abbrev dktX1_goes_0 : List UInt8 := dkwX1_goes_0 ++ dktX1_goes_1
theorem dksX1_goes_0 : cX1_goes.data.toList.drop 0 = dktX1_goes_0 := by decide +kernel
theorem dksX1_goes_1 : cX1_goes.data.toList.drop 22 = dktX1_goes_1 := dk_seg dksX1_goes_0 22 rfl rfl
theorem dksX1_goes_2 : cX1_goes.data.toList.drop 46 = dktX1_goes_2 := dk_seg dksX1_goes_1 24 rfl rfl
theorem dksX1_goes_3 : cX1_goes.data.toList.drop 69 = dktX1_goes_3 := dk_seg dksX1_goes_2 23 rfl rfl
theorem dksX1_goes_4 : cX1_goes.data.toList.drop 93 = dktX1_goes_4 := dk_seg dksX1_goes_3 24 rfl rfl
theorem dksX1_goes_5 : cX1_goes.data.toList.drop 117 = dktX1_goes_5 := dk_seg dksX1_goes_4 24 rfl rfl
theorem dksX1_goes_6 : cX1_goes.data.toList.drop 140 = dktX1_goes_6 := dk_seg dksX1_goes_5 23 rfl rfl
theorem dksX1_goes_7 : cX1_goes.data.toList.drop 164 = dktX1_goes_7 := dk_seg dksX1_goes_6 24 rfl rfl
theorem dX1_goes_0 : decode cX1_goes 0 = .ok (.aload_n 0, 1) := dk_42 (dk_at dksX1_goes_0 0 rfl rfl)
theorem dX1_goes_1 : decode cX1_goes 1 = .ok (.getfield 39, 3) := dk_180 0 39 (dk_at dksX1_goes_0 1 rfl rfl)
theorem dX1_goes_4 : decode cX1_goes 4 = .ok (.astore 4, 2) := dk_58 4 (dk_at dksX1_goes_0 4 rfl rfl)
theorem dX1_goes_6 : decode cX1_goes 6 = .ok (.aload 4, 2) := dk_25 4 (dk_at dksX1_goes_0 6 rfl rfl)
theorem dX1_goes_8 : decode cX1_goes 8 = .ok (.getfield 276, 3) := dk_180 1 20 (dk_at dksX1_goes_0 8 rfl rfl)
theorem dX1_goes_11 : decode cX1_goes 11 = .ok (.astore 5, 2) := dk_58 5 (dk_at dksX1_goes_0 11 rfl rfl)
theorem dX1_goes_13 : decode cX1_goes 13 = .ok (.aload 4, 2) := dk_25 4 (dk_at dksX1_goes_0 13 rfl rfl)
theorem dX1_goes_15 : decode cX1_goes 15 = .ok (.new 4, 3) := dk_187 0 4 (dk_at dksX1_goes_0 15 rfl rfl)
theorem dX1_goes_18 : decode cX1_goes 18 = .ok (.dup, 1) := dk_89 (dk_at dksX1_goes_0 18 rfl rfl)
theorem dX1_goes_19 : decode cX1_goes 19 = .ok (.invokespecial 353, 3) := dk_183 1 97 (dk_at dksX1_goes_0 19 rfl rfl)
theorem dX1_goes_22 : decode cX1_goes 22 = .ok (.putfield 276, 3) := dk_181 1 20 (dk_at dksX1_goes_1 0 rfl rfl)
theorem dX1_goes_25 : decode cX1_goes 25 = .ok (.new 279, 3) := dk_187 1 23 (dk_at dksX1_goes_1 3 rfl rfl)
theorem dX1_goes_28 : decode cX1_goes 28 = .ok (.dup, 1) := dk_89 (dk_at dksX1_goes_1 6 rfl rfl)
theorem dX1_goes_29 : decode cX1_goes 29 = .ok (.invokespecial 354, 3) := dk_183 1 98 (dk_at dksX1_goes_1 7 rfl rfl)
theorem dX1_goes_32 : decode cX1_goes 32 = .ok (.aload 4, 2) := dk_25 4 (dk_at dksX1_goes_1 10 rfl rfl)
theorem dX1_goes_34 : decode cX1_goes 34 = .ok (.getfield 149, 3) := dk_180 0 149 (dk_at dksX1_goes_1 12 rfl rfl)
theorem dX1_goes_37 : decode cX1_goes 37 = .ok (.iload_n 1, 1) := dk_27 (dk_at dksX1_goes_1 15 rfl rfl)
theorem dX1_goes_38 : decode cX1_goes 38 = .ok (.iaload, 1) := dk_46 (dk_at dksX1_goes_1 16 rfl rfl)
theorem dX1_goes_39 : decode cX1_goes 39 = .ok (.aload 4, 2) := dk_25 4 (dk_at dksX1_goes_1 17 rfl rfl)
theorem dX1_goes_41 : decode cX1_goes 41 = .ok (.getfield 149, 3) := dk_180 0 149 (dk_at dksX1_goes_1 19 rfl rfl)
theorem dX1_goes_44 : decode cX1_goes 44 = .ok (.iload_n 2, 1) := dk_28 (dk_at dksX1_goes_1 22 rfl rfl)
theorem dX1_goes_45 : decode cX1_goes 45 = .ok (.iaload, 1) := dk_46 (dk_at dksX1_goes_1 23 rfl rfl)
theorem dX1_goes_46 : decode cX1_goes 46 = .ok (.iload_n 3, 1) := dk_29 (dk_at dksX1_goes_2 0 rfl rfl)
theorem dX1_goes_47 : decode cX1_goes 47 = .ok (.iconst (-1), 1) := dk_2 (dk_at dksX1_goes_2 1 rfl rfl)
theorem dX1_goes_48 : decode cX1_goes 48 = .ok (.invokevirtual 355, 3) := dk_182 1 99 (dk_at dksX1_goes_2 2 rfl rfl)
theorem dX1_goes_51 : decode cX1_goes 51 = .ok (.astore 6, 2) := dk_58 6 (dk_at dksX1_goes_2 5 rfl rfl)
theorem dX1_goes_53 : decode cX1_goes 53 = .ok (.aload_n 0, 1) := dk_42 (dk_at dksX1_goes_2 7 rfl rfl)
theorem dX1_goes_54 : decode cX1_goes 54 = .ok (.iconst 0, 1) := dk_3 (dk_at dksX1_goes_2 8 rfl rfl)
theorem dX1_goes_55 : decode cX1_goes 55 = .ok (.putfield 359, 3) := dk_181 1 103 (dk_at dksX1_goes_2 9 rfl rfl)
theorem dX1_goes_58 : decode cX1_goes 58 = .ok (.aload_n 0, 1) := dk_42 (dk_at dksX1_goes_2 12 rfl rfl)
theorem dX1_goes_59 : decode cX1_goes 59 = .ok (.getfield 80, 3) := dk_180 0 80 (dk_at dksX1_goes_2 13 rfl rfl)
theorem dX1_goes_62 : decode cX1_goes 62 = .ok (.iconst 0, 1) := dk_3 (dk_at dksX1_goes_2 16 rfl rfl)
theorem dX1_goes_63 : decode cX1_goes 63 = .ok (.aload 6, 2) := dk_25 6 (dk_at dksX1_goes_2 17 rfl rfl)
theorem dX1_goes_65 : decode cX1_goes 65 = .ok (.getfield 281, 3) := dk_180 1 25 (dk_at dksX1_goes_2 19 rfl rfl)
theorem dX1_goes_68 : decode cX1_goes 68 = .ok (.iastore, 1) := dk_79 (dk_at dksX1_goes_2 22 rfl rfl)
theorem dX1_goes_69 : decode cX1_goes 69 = .ok (.aload 6, 2) := dk_25 6 (dk_at dksX1_goes_3 0 rfl rfl)
theorem dX1_goes_71 : decode cX1_goes 71 = .ok (.getfield 281, 3) := dk_180 1 25 (dk_at dksX1_goes_3 2 rfl rfl)
theorem dX1_goes_74 : decode cX1_goes 74 = .ok (.aload 6, 2) := dk_25 6 (dk_at dksX1_goes_3 5 rfl rfl)
theorem dX1_goes_76 : decode cX1_goes 76 = .ok (.getfield 362, 3) := dk_180 1 106 (dk_at dksX1_goes_3 7 rfl rfl)
theorem dX1_goes_79 : decode cX1_goes 79 = .ok (.if_icmp .eq 64, 3) := dk_159 0 64 (dk_at dksX1_goes_3 10 rfl rfl)
theorem dX1_goes_82 : decode cX1_goes 82 = .ok (.aload 6, 2) := dk_25 6 (dk_at dksX1_goes_3 13 rfl rfl)
theorem dX1_goes_84 : decode cX1_goes 84 = .ok (.getfield 287, 3) := dk_180 1 31 (dk_at dksX1_goes_3 15 rfl rfl)
theorem dX1_goes_87 : decode cX1_goes 87 = .ok (.sipush 200, 3) := dk_17 0 200 (dk_at dksX1_goes_3 18 rfl rfl)
theorem dX1_goes_90 : decode cX1_goes 90 = .ok (.if_icmp .ge 53, 3) := dk_162 0 53 (dk_at dksX1_goes_3 21 rfl rfl)
theorem dX1_goes_93 : decode cX1_goes 93 = .ok (.aload 4, 2) := dk_25 4 (dk_at dksX1_goes_4 0 rfl rfl)
theorem dX1_goes_95 : decode cX1_goes 95 = .ok (.aload 6, 2) := dk_25 6 (dk_at dksX1_goes_4 2 rfl rfl)
theorem dX1_goes_97 : decode cX1_goes 97 = .ok (.aload_n 0, 1) := dk_42 (dk_at dksX1_goes_4 4 rfl rfl)
theorem dX1_goes_98 : decode cX1_goes 98 = .ok (.getfield 55, 3) := dk_180 0 55 (dk_at dksX1_goes_4 5 rfl rfl)
theorem dX1_goes_101 : decode cX1_goes 101 = .ok (.iload_n 3, 1) := dk_29 (dk_at dksX1_goes_4 8 rfl rfl)
theorem dX1_goes_102 : decode cX1_goes 102 = .ok (.aaload, 1) := dk_50 (dk_at dksX1_goes_4 9 rfl rfl)
theorem dX1_goes_103 : decode cX1_goes 103 = .ok (.aload_n 0, 1) := dk_42 (dk_at dksX1_goes_4 10 rfl rfl)
theorem dX1_goes_104 : decode cX1_goes 104 = .ok (.getfield 49, 3) := dk_180 0 49 (dk_at dksX1_goes_4 11 rfl rfl)
theorem dX1_goes_107 : decode cX1_goes 107 = .ok (.invokevirtual 365, 3) := dk_182 1 109 (dk_at dksX1_goes_4 14 rfl rfl)
theorem dX1_goes_110 : decode cX1_goes 110 = .ok (.ifCond .ne 6, 3) := dk_154 0 6 (dk_at dksX1_goes_4 17 rfl rfl)
theorem dX1_goes_113 : decode cX1_goes 113 = .ok (.goto (-44), 3) := dk_167 255 212 (dk_at dksX1_goes_4 20 rfl rfl)
theorem dX1_goes_116 : decode cX1_goes 116 = .ok (.aload_n 0, 1) := dk_42 (dk_at dksX1_goes_4 23 rfl rfl)
theorem dX1_goes_117 : decode cX1_goes 117 = .ok (.dup, 1) := dk_89 (dk_at dksX1_goes_5 0 rfl rfl)
theorem dX1_goes_118 : decode cX1_goes 118 = .ok (.getfield 359, 3) := dk_180 1 103 (dk_at dksX1_goes_5 1 rfl rfl)
theorem dX1_goes_121 : decode cX1_goes 121 = .ok (.iconst 1, 1) := dk_4 (dk_at dksX1_goes_5 4 rfl rfl)
theorem dX1_goes_122 : decode cX1_goes 122 = .ok (.iadd, 1) := dk_96 (dk_at dksX1_goes_5 5 rfl rfl)
theorem dX1_goes_123 : decode cX1_goes 123 = .ok (.putfield 359, 3) := dk_181 1 103 (dk_at dksX1_goes_5 6 rfl rfl)
theorem dX1_goes_126 : decode cX1_goes 126 = .ok (.aload_n 0, 1) := dk_42 (dk_at dksX1_goes_5 9 rfl rfl)
theorem dX1_goes_127 : decode cX1_goes 127 = .ok (.getfield 80, 3) := dk_180 0 80 (dk_at dksX1_goes_5 10 rfl rfl)
theorem dX1_goes_130 : decode cX1_goes 130 = .ok (.aload_n 0, 1) := dk_42 (dk_at dksX1_goes_5 13 rfl rfl)
theorem dX1_goes_131 : decode cX1_goes 131 = .ok (.getfield 359, 3) := dk_180 1 103 (dk_at dksX1_goes_5 14 rfl rfl)
theorem dX1_goes_134 : decode cX1_goes 134 = .ok (.aload 6, 2) := dk_25 6 (dk_at dksX1_goes_5 17 rfl rfl)
theorem dX1_goes_136 : decode cX1_goes 136 = .ok (.getfield 281, 3) := dk_180 1 25 (dk_at dksX1_goes_5 19 rfl rfl)
theorem dX1_goes_139 : decode cX1_goes 139 = .ok (.iastore, 1) := dk_79 (dk_at dksX1_goes_5 22 rfl rfl)
theorem dX1_goes_140 : decode cX1_goes 140 = .ok (.goto (-71), 3) := dk_167 255 185 (dk_at dksX1_goes_6 0 rfl rfl)
theorem dX1_goes_143 : decode cX1_goes 143 = .ok (.aload 4, 2) := dk_25 4 (dk_at dksX1_goes_6 3 rfl rfl)
theorem dX1_goes_145 : decode cX1_goes 145 = .ok (.aload 5, 2) := dk_25 5 (dk_at dksX1_goes_6 5 rfl rfl)
theorem dX1_goes_147 : decode cX1_goes 147 = .ok (.putfield 276, 3) := dk_181 1 20 (dk_at dksX1_goes_6 7 rfl rfl)
theorem dX1_goes_150 : decode cX1_goes 150 = .ok (.aload 6, 2) := dk_25 6 (dk_at dksX1_goes_6 10 rfl rfl)
theorem dX1_goes_152 : decode cX1_goes 152 = .ok (.getfield 281, 3) := dk_180 1 25 (dk_at dksX1_goes_6 12 rfl rfl)
theorem dX1_goes_155 : decode cX1_goes 155 = .ok (.aload 6, 2) := dk_25 6 (dk_at dksX1_goes_6 15 rfl rfl)
theorem dX1_goes_157 : decode cX1_goes 157 = .ok (.getfield 362, 3) := dk_180 1 106 (dk_at dksX1_goes_6 17 rfl rfl)
theorem dX1_goes_160 : decode cX1_goes 160 = .ok (.if_icmp .ne 7, 3) := dk_160 0 7 (dk_at dksX1_goes_6 20 rfl rfl)
theorem dX1_goes_163 : decode cX1_goes 163 = .ok (.iconst 1, 1) := dk_4 (dk_at dksX1_goes_6 23 rfl rfl)
theorem dX1_goes_164 : decode cX1_goes 164 = .ok (.goto 4, 3) := dk_167 0 4 (dk_at dksX1_goes_7 0 rfl rfl)
theorem dX1_goes_167 : decode cX1_goes 167 = .ok (.iconst 0, 1) := dk_3 (dk_at dksX1_goes_7 3 rfl rfl)
theorem dX1_goes_168 : decode cX1_goes 168 = .ok (.ireturn, 1) := dk_172 (dk_at dksX1_goes_7 4 rfl rfl)
abbrev cX1_wayAt : ByteArray := prog_1_method_51_code
def yX1_wayAt : MethodName := ⟨RX1, "wayAt", "(I)I"⟩
def dkwX1_wayAt_0 : List UInt8 := [27, 3, 42, 180, 0, 83, 184, 0, 112, 153, 0, 12, 42, 180, 0, 77, 27, 46, 167, 0, 4, 2, 172]
abbrev dktX1_wayAt_0 : List UInt8 := dkwX1_wayAt_0 ++ []
theorem dksX1_wayAt_0 : cX1_wayAt.data.toList.drop 0 = dktX1_wayAt_0 := by decide +kernel
theorem dX1_wayAt_0 : decode cX1_wayAt 0 = .ok (.iload_n 1, 1) := dk_27 (dk_at dksX1_wayAt_0 0 rfl rfl)
theorem dX1_wayAt_1 : decode cX1_wayAt 1 = .ok (.iconst 0, 1) := dk_3 (dk_at dksX1_wayAt_0 1 rfl rfl)
theorem dX1_wayAt_2 : decode cX1_wayAt 2 = .ok (.aload_n 0, 1) := dk_42 (dk_at dksX1_wayAt_0 2 rfl rfl)
theorem dX1_wayAt_3 : decode cX1_wayAt 3 = .ok (.getfield 83, 3) := dk_180 0 83 (dk_at dksX1_wayAt_0 3 rfl rfl)
theorem dX1_wayAt_6 : decode cX1_wayAt 6 = .ok (.invokestatic 112, 3) := dk_184 0 112 (dk_at dksX1_wayAt_0 6 rfl rfl)
theorem dX1_wayAt_9 : decode cX1_wayAt 9 = .ok (.ifCond .eq 12, 3) := dk_153 0 12 (dk_at dksX1_wayAt_0 9 rfl rfl)
theorem dX1_wayAt_12 : decode cX1_wayAt 12 = .ok (.aload_n 0, 1) := dk_42 (dk_at dksX1_wayAt_0 12 rfl rfl)
theorem dX1_wayAt_13 : decode cX1_wayAt 13 = .ok (.getfield 77, 3) := dk_180 0 77 (dk_at dksX1_wayAt_0 13 rfl rfl)
theorem dX1_wayAt_16 : decode cX1_wayAt 16 = .ok (.iload_n 1, 1) := dk_27 (dk_at dksX1_wayAt_0 16 rfl rfl)
theorem dX1_wayAt_17 : decode cX1_wayAt 17 = .ok (.iaload, 1) := dk_46 (dk_at dksX1_wayAt_0 17 rfl rfl)
theorem dX1_wayAt_18 : decode cX1_wayAt 18 = .ok (.goto 4, 3) := dk_167 0 4 (dk_at dksX1_wayAt_0 18 rfl rfl)
theorem dX1_wayAt_21 : decode cX1_wayAt 21 = .ok (.iconst (-1), 1) := dk_2 (dk_at dksX1_wayAt_0 21 rfl rfl)
theorem dX1_wayAt_22 : decode cX1_wayAt 22 = .ok (.ireturn, 1) := dk_172 (dk_at dksX1_wayAt_0 22 rfl rfl)
abbrev cX1_read : ByteArray := prog_1_method_52_code
def yX1_read : MethodName := ⟨RX1, "read", "()I"⟩
def dkwX1_read_8 : List UInt8 := [180, 1, 116, 158, 0, 8, 42, 28, 181, 1, 122, 42, 180, 1, 116, 172]
abbrev dktX1_read_8 : List UInt8 := dkwX1_read_8 ++ []
def dkwX1_read_7 : List UInt8 := [3, 42, 180, 0, 98, 3, 17, 1, 0, 184, 1, 56, 42, 3, 181, 1, 116, 42, 3, 28, 182, 1, 119, 42]
abbrev dktX1_read_7 : List UInt8 := dkwX1_read_7 ++ dktX1_read_8
def dkwX1_read_6 : List UInt8 := [92, 46, 4, 96, 79, 132, 4, 1, 167, 255, 226, 132, 3, 1, 167, 255, 130, 42, 180, 0, 39, 180, 0, 240]
abbrev dktX1_read_6 : List UInt8 := dkwX1_read_6 ++ dktX1_read_7
def dkwX1_read_5 : List UInt8 := [54, 4, 21, 4, 42, 180, 1, 103, 163, 0, 27, 42, 180, 0, 86, 29, 50, 42, 180, 0, 80, 21, 4, 46]
abbrev dktX1_read_5 : List UInt8 := dkwX1_read_5 ++ dktX1_read_6
def dkwX1_read_4 : List UInt8 := [5, 96, 182, 0, 116, 182, 1, 113, 154, 0, 5, 2, 172, 42, 180, 0, 86, 29, 50, 3, 184, 0, 243, 4]
abbrev dktX1_read_4 : List UInt8 := dkwX1_read_4 ++ dktX1_read_5
def dkwX1_read_3 : List UInt8 := [153, 0, 35, 42, 42, 6, 29, 104, 182, 0, 116, 42, 6, 29, 104, 4, 96, 182, 0, 116, 42, 6, 29, 104]
abbrev dktX1_read_3 : List UInt8 := dkwX1_read_3 ++ dktX1_read_4
def dkwX1_read_2 : List UInt8 := [96, 182, 0, 116, 182, 0, 186, 153, 0, 50, 42, 6, 29, 104, 5, 96, 182, 0, 116, 184, 0, 174]
abbrev dktX1_read_2 : List UInt8 := dkwX1_read_2 ++ dktX1_read_3
def dkwX1_read_1 : List UInt8 := [27, 6, 108, 61, 3, 62, 29, 28, 162, 0, 127, 42, 42, 6, 29, 104, 182, 0, 116, 42, 6, 29, 104, 4]
abbrev dktX1_read_1 : List UInt8 := dkwX1_read_1 ++ dktX1_read_2
def dkwX1_read_0 : List UInt8 := [42, 182, 0, 109, 60, 27, 6, 112, 154, 0, 14, 27, 6, 108, 4, 8, 184, 0, 112, 154, 0, 5, 2, 172]
abbrev dktX1_read_0 : List UInt8 := dkwX1_read_0 ++ dktX1_read_1
theorem dksX1_read_0 : cX1_read.data.toList.drop 0 = dktX1_read_0 := by decide +kernel
theorem dksX1_read_1 : cX1_read.data.toList.drop 24 = dktX1_read_1 := dk_seg dksX1_read_0 24 rfl rfl
theorem dksX1_read_2 : cX1_read.data.toList.drop 48 = dktX1_read_2 := dk_seg dksX1_read_1 24 rfl rfl
theorem dksX1_read_3 : cX1_read.data.toList.drop 70 = dktX1_read_3 := dk_seg dksX1_read_2 22 rfl rfl
theorem dksX1_read_4 : cX1_read.data.toList.drop 94 = dktX1_read_4 := dk_seg dksX1_read_3 24 rfl rfl
theorem dksX1_read_5 : cX1_read.data.toList.drop 118 = dktX1_read_5 := dk_seg dksX1_read_4 24 rfl rfl
theorem dksX1_read_6 : cX1_read.data.toList.drop 142 = dktX1_read_6 := dk_seg dksX1_read_5 24 rfl rfl
theorem dksX1_read_7 : cX1_read.data.toList.drop 166 = dktX1_read_7 := dk_seg dksX1_read_6 24 rfl rfl
theorem dksX1_read_8 : cX1_read.data.toList.drop 190 = dktX1_read_8 := dk_seg dksX1_read_7 24 rfl rfl
theorem dX1_read_0 : decode cX1_read 0 = .ok (.aload_n 0, 1) := dk_42 (dk_at dksX1_read_0 0 rfl rfl)
theorem dX1_read_1 : decode cX1_read 1 = .ok (.invokevirtual 109, 3) := dk_182 0 109 (dk_at dksX1_read_0 1 rfl rfl)
theorem dX1_read_4 : decode cX1_read 4 = .ok (.istore_n 1, 1) := dk_60 (dk_at dksX1_read_0 4 rfl rfl)
theorem dX1_read_5 : decode cX1_read 5 = .ok (.iload_n 1, 1) := dk_27 (dk_at dksX1_read_0 5 rfl rfl)
theorem dX1_read_6 : decode cX1_read 6 = .ok (.iconst 3, 1) := dk_6 (dk_at dksX1_read_0 6 rfl rfl)
theorem dX1_read_7 : decode cX1_read 7 = .ok (.irem, 1) := dk_112 (dk_at dksX1_read_0 7 rfl rfl)
theorem dX1_read_8 : decode cX1_read 8 = .ok (.ifCond .ne 14, 3) := dk_154 0 14 (dk_at dksX1_read_0 8 rfl rfl)
theorem dX1_read_11 : decode cX1_read 11 = .ok (.iload_n 1, 1) := dk_27 (dk_at dksX1_read_0 11 rfl rfl)
theorem dX1_read_12 : decode cX1_read 12 = .ok (.iconst 3, 1) := dk_6 (dk_at dksX1_read_0 12 rfl rfl)
theorem dX1_read_13 : decode cX1_read 13 = .ok (.idiv, 1) := dk_108 (dk_at dksX1_read_0 13 rfl rfl)
theorem dX1_read_14 : decode cX1_read 14 = .ok (.iconst 1, 1) := dk_4 (dk_at dksX1_read_0 14 rfl rfl)
theorem dX1_read_15 : decode cX1_read 15 = .ok (.iconst 5, 1) := dk_8 (dk_at dksX1_read_0 15 rfl rfl)
theorem dX1_read_16 : decode cX1_read 16 = .ok (.invokestatic 112, 3) := dk_184 0 112 (dk_at dksX1_read_0 16 rfl rfl)
theorem dX1_read_19 : decode cX1_read 19 = .ok (.ifCond .ne 5, 3) := dk_154 0 5 (dk_at dksX1_read_0 19 rfl rfl)
theorem dX1_read_22 : decode cX1_read 22 = .ok (.iconst (-1), 1) := dk_2 (dk_at dksX1_read_0 22 rfl rfl)
theorem dX1_read_23 : decode cX1_read 23 = .ok (.ireturn, 1) := dk_172 (dk_at dksX1_read_0 23 rfl rfl)
theorem dX1_read_24 : decode cX1_read 24 = .ok (.iload_n 1, 1) := dk_27 (dk_at dksX1_read_1 0 rfl rfl)
theorem dX1_read_25 : decode cX1_read 25 = .ok (.iconst 3, 1) := dk_6 (dk_at dksX1_read_1 1 rfl rfl)
theorem dX1_read_26 : decode cX1_read 26 = .ok (.idiv, 1) := dk_108 (dk_at dksX1_read_1 2 rfl rfl)
theorem dX1_read_27 : decode cX1_read 27 = .ok (.istore_n 2, 1) := dk_61 (dk_at dksX1_read_1 3 rfl rfl)
theorem dX1_read_28 : decode cX1_read 28 = .ok (.iconst 0, 1) := dk_3 (dk_at dksX1_read_1 4 rfl rfl)
theorem dX1_read_29 : decode cX1_read 29 = .ok (.istore_n 3, 1) := dk_62 (dk_at dksX1_read_1 5 rfl rfl)
theorem dX1_read_30 : decode cX1_read 30 = .ok (.iload_n 3, 1) := dk_29 (dk_at dksX1_read_1 6 rfl rfl)
theorem dX1_read_31 : decode cX1_read 31 = .ok (.iload_n 2, 1) := dk_28 (dk_at dksX1_read_1 7 rfl rfl)
theorem dX1_read_32 : decode cX1_read 32 = .ok (.if_icmp .ge 127, 3) := dk_162 0 127 (dk_at dksX1_read_1 8 rfl rfl)
theorem dX1_read_35 : decode cX1_read 35 = .ok (.aload_n 0, 1) := dk_42 (dk_at dksX1_read_1 11 rfl rfl)
theorem dX1_read_36 : decode cX1_read 36 = .ok (.aload_n 0, 1) := dk_42 (dk_at dksX1_read_1 12 rfl rfl)
theorem dX1_read_37 : decode cX1_read 37 = .ok (.iconst 3, 1) := dk_6 (dk_at dksX1_read_1 13 rfl rfl)
theorem dX1_read_38 : decode cX1_read 38 = .ok (.iload_n 3, 1) := dk_29 (dk_at dksX1_read_1 14 rfl rfl)
theorem dX1_read_39 : decode cX1_read 39 = .ok (.imul, 1) := dk_104 (dk_at dksX1_read_1 15 rfl rfl)
theorem dX1_read_40 : decode cX1_read 40 = .ok (.invokevirtual 116, 3) := dk_182 0 116 (dk_at dksX1_read_1 16 rfl rfl)
theorem dX1_read_43 : decode cX1_read 43 = .ok (.aload_n 0, 1) := dk_42 (dk_at dksX1_read_1 19 rfl rfl)
theorem dX1_read_44 : decode cX1_read 44 = .ok (.iconst 3, 1) := dk_6 (dk_at dksX1_read_1 20 rfl rfl)
theorem dX1_read_45 : decode cX1_read 45 = .ok (.iload_n 3, 1) := dk_29 (dk_at dksX1_read_1 21 rfl rfl)
theorem dX1_read_46 : decode cX1_read 46 = .ok (.imul, 1) := dk_104 (dk_at dksX1_read_1 22 rfl rfl)
theorem dX1_read_47 : decode cX1_read 47 = .ok (.iconst 1, 1) := dk_4 (dk_at dksX1_read_1 23 rfl rfl)
theorem dX1_read_48 : decode cX1_read 48 = .ok (.iadd, 1) := dk_96 (dk_at dksX1_read_2 0 rfl rfl)
theorem dX1_read_49 : decode cX1_read 49 = .ok (.invokevirtual 116, 3) := dk_182 0 116 (dk_at dksX1_read_2 1 rfl rfl)
theorem dX1_read_52 : decode cX1_read 52 = .ok (.invokevirtual 186, 3) := dk_182 0 186 (dk_at dksX1_read_2 4 rfl rfl)
theorem dX1_read_55 : decode cX1_read 55 = .ok (.ifCond .eq 50, 3) := dk_153 0 50 (dk_at dksX1_read_2 7 rfl rfl)
theorem dX1_read_58 : decode cX1_read 58 = .ok (.aload_n 0, 1) := dk_42 (dk_at dksX1_read_2 10 rfl rfl)
theorem dX1_read_59 : decode cX1_read 59 = .ok (.iconst 3, 1) := dk_6 (dk_at dksX1_read_2 11 rfl rfl)
theorem dX1_read_60 : decode cX1_read 60 = .ok (.iload_n 3, 1) := dk_29 (dk_at dksX1_read_2 12 rfl rfl)
theorem dX1_read_61 : decode cX1_read 61 = .ok (.imul, 1) := dk_104 (dk_at dksX1_read_2 13 rfl rfl)
theorem dX1_read_62 : decode cX1_read 62 = .ok (.iconst 2, 1) := dk_5 (dk_at dksX1_read_2 14 rfl rfl)
theorem dX1_read_63 : decode cX1_read 63 = .ok (.iadd, 1) := dk_96 (dk_at dksX1_read_2 15 rfl rfl)
theorem dX1_read_64 : decode cX1_read 64 = .ok (.invokevirtual 116, 3) := dk_182 0 116 (dk_at dksX1_read_2 16 rfl rfl)
theorem dX1_read_67 : decode cX1_read 67 = .ok (.invokestatic 174, 3) := dk_184 0 174 (dk_at dksX1_read_2 19 rfl rfl)
theorem dX1_read_70 : decode cX1_read 70 = .ok (.ifCond .eq 35, 3) := dk_153 0 35 (dk_at dksX1_read_3 0 rfl rfl)
theorem dX1_read_73 : decode cX1_read 73 = .ok (.aload_n 0, 1) := dk_42 (dk_at dksX1_read_3 3 rfl rfl)
theorem dX1_read_74 : decode cX1_read 74 = .ok (.aload_n 0, 1) := dk_42 (dk_at dksX1_read_3 4 rfl rfl)
theorem dX1_read_75 : decode cX1_read 75 = .ok (.iconst 3, 1) := dk_6 (dk_at dksX1_read_3 5 rfl rfl)
theorem dX1_read_76 : decode cX1_read 76 = .ok (.iload_n 3, 1) := dk_29 (dk_at dksX1_read_3 6 rfl rfl)
theorem dX1_read_77 : decode cX1_read 77 = .ok (.imul, 1) := dk_104 (dk_at dksX1_read_3 7 rfl rfl)
theorem dX1_read_78 : decode cX1_read 78 = .ok (.invokevirtual 116, 3) := dk_182 0 116 (dk_at dksX1_read_3 8 rfl rfl)
theorem dX1_read_81 : decode cX1_read 81 = .ok (.aload_n 0, 1) := dk_42 (dk_at dksX1_read_3 11 rfl rfl)
theorem dX1_read_82 : decode cX1_read 82 = .ok (.iconst 3, 1) := dk_6 (dk_at dksX1_read_3 12 rfl rfl)
theorem dX1_read_83 : decode cX1_read 83 = .ok (.iload_n 3, 1) := dk_29 (dk_at dksX1_read_3 13 rfl rfl)
theorem dX1_read_84 : decode cX1_read 84 = .ok (.imul, 1) := dk_104 (dk_at dksX1_read_3 14 rfl rfl)
theorem dX1_read_85 : decode cX1_read 85 = .ok (.iconst 1, 1) := dk_4 (dk_at dksX1_read_3 15 rfl rfl)
theorem dX1_read_86 : decode cX1_read 86 = .ok (.iadd, 1) := dk_96 (dk_at dksX1_read_3 16 rfl rfl)
theorem dX1_read_87 : decode cX1_read 87 = .ok (.invokevirtual 116, 3) := dk_182 0 116 (dk_at dksX1_read_3 17 rfl rfl)
theorem dX1_read_90 : decode cX1_read 90 = .ok (.aload_n 0, 1) := dk_42 (dk_at dksX1_read_3 20 rfl rfl)
theorem dX1_read_91 : decode cX1_read 91 = .ok (.iconst 3, 1) := dk_6 (dk_at dksX1_read_3 21 rfl rfl)
theorem dX1_read_92 : decode cX1_read 92 = .ok (.iload_n 3, 1) := dk_29 (dk_at dksX1_read_3 22 rfl rfl)
theorem dX1_read_93 : decode cX1_read 93 = .ok (.imul, 1) := dk_104 (dk_at dksX1_read_3 23 rfl rfl)
theorem dX1_read_94 : decode cX1_read 94 = .ok (.iconst 2, 1) := dk_5 (dk_at dksX1_read_4 0 rfl rfl)
theorem dX1_read_95 : decode cX1_read 95 = .ok (.iadd, 1) := dk_96 (dk_at dksX1_read_4 1 rfl rfl)
theorem dX1_read_96 : decode cX1_read 96 = .ok (.invokevirtual 116, 3) := dk_182 0 116 (dk_at dksX1_read_4 2 rfl rfl)
theorem dX1_read_99 : decode cX1_read 99 = .ok (.invokevirtual 369, 3) := dk_182 1 113 (dk_at dksX1_read_4 5 rfl rfl)
theorem dX1_read_102 : decode cX1_read 102 = .ok (.ifCond .ne 5, 3) := dk_154 0 5 (dk_at dksX1_read_4 8 rfl rfl)
theorem dX1_read_105 : decode cX1_read 105 = .ok (.iconst (-1), 1) := dk_2 (dk_at dksX1_read_4 11 rfl rfl)
theorem dX1_read_106 : decode cX1_read 106 = .ok (.ireturn, 1) := dk_172 (dk_at dksX1_read_4 12 rfl rfl)
theorem dX1_read_107 : decode cX1_read 107 = .ok (.aload_n 0, 1) := dk_42 (dk_at dksX1_read_4 13 rfl rfl)
theorem dX1_read_108 : decode cX1_read 108 = .ok (.getfield 86, 3) := dk_180 0 86 (dk_at dksX1_read_4 14 rfl rfl)
theorem dX1_read_111 : decode cX1_read 111 = .ok (.iload_n 3, 1) := dk_29 (dk_at dksX1_read_4 17 rfl rfl)
theorem dX1_read_112 : decode cX1_read 112 = .ok (.aaload, 1) := dk_50 (dk_at dksX1_read_4 18 rfl rfl)
theorem dX1_read_113 : decode cX1_read 113 = .ok (.iconst 0, 1) := dk_3 (dk_at dksX1_read_4 19 rfl rfl)
theorem dX1_read_114 : decode cX1_read 114 = .ok (.invokestatic 243, 3) := dk_184 0 243 (dk_at dksX1_read_4 20 rfl rfl)
theorem dX1_read_117 : decode cX1_read 117 = .ok (.iconst 1, 1) := dk_4 (dk_at dksX1_read_4 23 rfl rfl)
theorem dX1_read_118 : decode cX1_read 118 = .ok (.istore 4, 2) := dk_54 4 (dk_at dksX1_read_5 0 rfl rfl)
theorem dX1_read_120 : decode cX1_read 120 = .ok (.iload 4, 2) := dk_21 4 (dk_at dksX1_read_5 2 rfl rfl)
theorem dX1_read_122 : decode cX1_read 122 = .ok (.aload_n 0, 1) := dk_42 (dk_at dksX1_read_5 4 rfl rfl)
theorem dX1_read_123 : decode cX1_read 123 = .ok (.getfield 359, 3) := dk_180 1 103 (dk_at dksX1_read_5 5 rfl rfl)
theorem dX1_read_126 : decode cX1_read 126 = .ok (.if_icmp .gt 27, 3) := dk_163 0 27 (dk_at dksX1_read_5 8 rfl rfl)
theorem dX1_read_129 : decode cX1_read 129 = .ok (.aload_n 0, 1) := dk_42 (dk_at dksX1_read_5 11 rfl rfl)
theorem dX1_read_130 : decode cX1_read 130 = .ok (.getfield 86, 3) := dk_180 0 86 (dk_at dksX1_read_5 12 rfl rfl)
theorem dX1_read_133 : decode cX1_read 133 = .ok (.iload_n 3, 1) := dk_29 (dk_at dksX1_read_5 15 rfl rfl)
theorem dX1_read_134 : decode cX1_read 134 = .ok (.aaload, 1) := dk_50 (dk_at dksX1_read_5 16 rfl rfl)
theorem dX1_read_135 : decode cX1_read 135 = .ok (.aload_n 0, 1) := dk_42 (dk_at dksX1_read_5 17 rfl rfl)
theorem dX1_read_136 : decode cX1_read 136 = .ok (.getfield 80, 3) := dk_180 0 80 (dk_at dksX1_read_5 18 rfl rfl)
theorem dX1_read_139 : decode cX1_read 139 = .ok (.iload 4, 2) := dk_21 4 (dk_at dksX1_read_5 21 rfl rfl)
theorem dX1_read_141 : decode cX1_read 141 = .ok (.iaload, 1) := dk_46 (dk_at dksX1_read_5 23 rfl rfl)
theorem dX1_read_142 : decode cX1_read 142 = .ok (.dup2, 1) := dk_92 (dk_at dksX1_read_6 0 rfl rfl)
theorem dX1_read_143 : decode cX1_read 143 = .ok (.iaload, 1) := dk_46 (dk_at dksX1_read_6 1 rfl rfl)
theorem dX1_read_144 : decode cX1_read 144 = .ok (.iconst 1, 1) := dk_4 (dk_at dksX1_read_6 2 rfl rfl)
theorem dX1_read_145 : decode cX1_read 145 = .ok (.iadd, 1) := dk_96 (dk_at dksX1_read_6 3 rfl rfl)
theorem dX1_read_146 : decode cX1_read 146 = .ok (.iastore, 1) := dk_79 (dk_at dksX1_read_6 4 rfl rfl)
theorem dX1_read_147 : decode cX1_read 147 = .ok (.iinc 4 1, 3) := dk_132 4 1 (dk_at dksX1_read_6 5 rfl rfl)
theorem dX1_read_150 : decode cX1_read 150 = .ok (.goto (-30), 3) := dk_167 255 226 (dk_at dksX1_read_6 8 rfl rfl)
theorem dX1_read_153 : decode cX1_read 153 = .ok (.iinc 3 1, 3) := dk_132 3 1 (dk_at dksX1_read_6 11 rfl rfl)
theorem dX1_read_156 : decode cX1_read 156 = .ok (.goto (-126), 3) := dk_167 255 130 (dk_at dksX1_read_6 14 rfl rfl)
theorem dX1_read_159 : decode cX1_read 159 = .ok (.aload_n 0, 1) := dk_42 (dk_at dksX1_read_6 17 rfl rfl)
theorem dX1_read_160 : decode cX1_read 160 = .ok (.getfield 39, 3) := dk_180 0 39 (dk_at dksX1_read_6 18 rfl rfl)
theorem dX1_read_163 : decode cX1_read 163 = .ok (.getfield 240, 3) := dk_180 0 240 (dk_at dksX1_read_6 21 rfl rfl)
theorem dX1_read_166 : decode cX1_read 166 = .ok (.iconst 0, 1) := dk_3 (dk_at dksX1_read_7 0 rfl rfl)
theorem dX1_read_167 : decode cX1_read 167 = .ok (.aload_n 0, 1) := dk_42 (dk_at dksX1_read_7 1 rfl rfl)
theorem dX1_read_168 : decode cX1_read 168 = .ok (.getfield 98, 3) := dk_180 0 98 (dk_at dksX1_read_7 2 rfl rfl)
theorem dX1_read_171 : decode cX1_read 171 = .ok (.iconst 0, 1) := dk_3 (dk_at dksX1_read_7 5 rfl rfl)
theorem dX1_read_172 : decode cX1_read 172 = .ok (.sipush 256, 3) := dk_17 1 0 (dk_at dksX1_read_7 6 rfl rfl)
theorem dX1_read_175 : decode cX1_read 175 = .ok (.invokestatic 312, 3) := dk_184 1 56 (dk_at dksX1_read_7 9 rfl rfl)
theorem dX1_read_178 : decode cX1_read 178 = .ok (.aload_n 0, 1) := dk_42 (dk_at dksX1_read_7 12 rfl rfl)
theorem dX1_read_179 : decode cX1_read 179 = .ok (.iconst 0, 1) := dk_3 (dk_at dksX1_read_7 13 rfl rfl)
theorem dX1_read_180 : decode cX1_read 180 = .ok (.putfield 372, 3) := dk_181 1 116 (dk_at dksX1_read_7 14 rfl rfl)
theorem dX1_read_183 : decode cX1_read 183 = .ok (.aload_n 0, 1) := dk_42 (dk_at dksX1_read_7 17 rfl rfl)
theorem dX1_read_184 : decode cX1_read 184 = .ok (.iconst 0, 1) := dk_3 (dk_at dksX1_read_7 18 rfl rfl)
theorem dX1_read_185 : decode cX1_read 185 = .ok (.iload_n 2, 1) := dk_28 (dk_at dksX1_read_7 19 rfl rfl)
theorem dX1_read_186 : decode cX1_read 186 = .ok (.invokevirtual 375, 3) := dk_182 1 119 (dk_at dksX1_read_7 20 rfl rfl)
theorem dX1_read_189 : decode cX1_read 189 = .ok (.aload_n 0, 1) := dk_42 (dk_at dksX1_read_7 23 rfl rfl)
theorem dX1_read_190 : decode cX1_read 190 = .ok (.getfield 372, 3) := dk_180 1 116 (dk_at dksX1_read_8 0 rfl rfl)
theorem dX1_read_193 : decode cX1_read 193 = .ok (.ifCond .le 8, 3) := dk_158 0 8 (dk_at dksX1_read_8 3 rfl rfl)
theorem dX1_read_196 : decode cX1_read 196 = .ok (.aload_n 0, 1) := dk_42 (dk_at dksX1_read_8 6 rfl rfl)
theorem dX1_read_197 : decode cX1_read 197 = .ok (.iload_n 2, 1) := dk_28 (dk_at dksX1_read_8 7 rfl rfl)
theorem dX1_read_198 : decode cX1_read 198 = .ok (.putfield 378, 3) := dk_181 1 122 (dk_at dksX1_read_8 8 rfl rfl)
theorem dX1_read_201 : decode cX1_read 201 = .ok (.aload_n 0, 1) := dk_42 (dk_at dksX1_read_8 11 rfl rfl)
theorem dX1_read_202 : decode cX1_read 202 = .ok (.getfield 372, 3) := dk_180 1 116 (dk_at dksX1_read_8 12 rfl rfl)
theorem dX1_read_205 : decode cX1_read 205 = .ok (.ireturn, 1) := dk_172 (dk_at dksX1_read_8 15 rfl rfl)
abbrev cX1_choose : ByteArray := prog_1_method_53_code
def yX1_choose : MethodName := ⟨RX1, "choose", "(II)V"⟩
def dkwX1_choose_12 : List UInt8 := [167, 255, 220, 177]
abbrev dktX1_choose_12 : List UInt8 := dkwX1_choose_12 ++ []
def dkwX1_choose_11 : List UInt8 := [42, 180, 0, 98, 21, 5, 92, 46, 29, 42, 180, 0, 86, 27, 50, 21, 5, 46, 104, 96, 79, 132, 5, 1]
abbrev dktX1_choose_11 : List UInt8 := dkwX1_choose_11 ++ dktX1_choose_12
def dkwX1_choose_10 : List UInt8 := [132, 3, 1, 132, 5, 1, 167, 255, 160, 3, 54, 5, 21, 5, 42, 180, 0, 39, 182, 0, 225, 162, 0, 30]
abbrev dktX1_choose_10 : List UInt8 := dkwX1_choose_10 ++ dktX1_choose_11
def dkwX1_choose_9 : List UInt8 := [180, 0, 98, 21, 6, 46, 155, 0, 7, 4, 167, 0, 4, 3, 54, 4, 132, 6, 1, 167, 255, 200]
abbrev dktX1_choose_9 : List UInt8 := dkwX1_choose_9 ++ dktX1_choose_10
def dkwX1_choose_8 : List UInt8 := [180, 0, 98, 21, 6, 92, 46, 42, 180, 0, 86, 27, 50, 21, 6, 46, 100, 79, 21, 4, 153, 0, 17, 42]
abbrev dktX1_choose_8 : List UInt8 := dkwX1_choose_8 ++ dktX1_choose_9
def dkwX1_choose_7 : List UInt8 := [4, 96, 28, 182, 1, 119, 3, 54, 6, 21, 6, 42, 180, 0, 39, 182, 0, 225, 162, 0, 50, 42]
abbrev dktX1_choose_7 : List UInt8 := dkwX1_choose_7 ++ dktX1_choose_8
def dkwX1_choose_6 : List UInt8 := [54, 5, 21, 5, 16, 9, 163, 0, 95, 21, 4, 153, 0, 90, 42, 180, 0, 95, 27, 21, 5, 79, 42, 27]
abbrev dktX1_choose_6 : List UInt8 := dkwX1_choose_6 ++ dktX1_choose_7
def dkwX1_choose_5 : List UInt8 := [132, 3, 1, 167, 255, 174, 42, 89, 180, 1, 116, 4, 96, 181, 1, 116, 177, 3, 62, 4, 54, 4, 3]
abbrev dktX1_choose_5 : List UInt8 := dkwX1_choose_5 ++ dktX1_choose_6
def dkwX1_choose_4 : List UInt8 := [180, 0, 95, 29, 46, 167, 0, 18, 42, 180, 0, 92, 29, 46, 42, 180, 0, 95, 29, 46, 184, 1, 125, 79]
abbrev dktX1_choose_4 : List UInt8 := dkwX1_choose_4 ++ dktX1_choose_5
def dkwX1_choose_3 : List UInt8 := [180, 0, 95, 29, 46, 184, 0, 234, 79, 42, 180, 0, 92, 29, 42, 180, 1, 116, 154, 0, 12, 42]
abbrev dktX1_choose_3 : List UInt8 := dkwX1_choose_3 ++ dktX1_choose_4
def dkwX1_choose_2 : List UInt8 := [180, 1, 116, 154, 0, 12, 42, 180, 0, 95, 29, 46, 167, 0, 18, 42, 180, 0, 89, 29, 46, 42]
abbrev dktX1_choose_2 : List UInt8 := dkwX1_choose_2 ++ dktX1_choose_3
def dkwX1_choose_1 : List UInt8 := [153, 0, 4, 177, 132, 3, 1, 167, 255, 232, 3, 62, 29, 28, 162, 0, 83, 42, 180, 0, 89, 29, 42]
abbrev dktX1_choose_1 : List UInt8 := dkwX1_choose_1 ++ dktX1_choose_2
def dkwX1_choose_0 : List UInt8 := [27, 28, 160, 0, 130, 3, 62, 29, 42, 180, 0, 39, 182, 0, 225, 162, 0, 19, 42, 180, 0, 98, 29, 46]
abbrev dktX1_choose_0 : List UInt8 := dkwX1_choose_0 ++ dktX1_choose_1
theorem dksX1_choose_0 : cX1_choose.data.toList.drop 0 = dktX1_choose_0 := by decide +kernel
theorem dksX1_choose_1 : cX1_choose.data.toList.drop 24 = dktX1_choose_1 := dk_seg dksX1_choose_0 24 rfl rfl
theorem dksX1_choose_2 : cX1_choose.data.toList.drop 47 = dktX1_choose_2 := dk_seg dksX1_choose_1 23 rfl rfl
theorem dksX1_choose_3 : cX1_choose.data.toList.drop 69 = dktX1_choose_3 := dk_seg dksX1_choose_2 22 rfl rfl
theorem dksX1_choose_4 : cX1_choose.data.toList.drop 91 = dktX1_choose_4 := dk_seg dksX1_choose_3 22 rfl rfl
theorem dksX1_choose_5 : cX1_choose.data.toList.drop 115 = dktX1_choose_5 := dk_seg dksX1_choose_4 24 rfl rfl
theorem dksX1_choose_6 : cX1_choose.data.toList.drop 138 = dktX1_choose_6 := dk_seg dksX1_choose_5 23 rfl rfl
theorem dksX1_choose_7 : cX1_choose.data.toList.drop 162 = dktX1_choose_7 := dk_seg dksX1_choose_6 24 rfl rfl
theorem dksX1_choose_8 : cX1_choose.data.toList.drop 184 = dktX1_choose_8 := dk_seg dksX1_choose_7 22 rfl rfl
theorem dksX1_choose_9 : cX1_choose.data.toList.drop 208 = dktX1_choose_9 := dk_seg dksX1_choose_8 24 rfl rfl
theorem dksX1_choose_10 : cX1_choose.data.toList.drop 230 = dktX1_choose_10 := dk_seg dksX1_choose_9 22 rfl rfl
theorem dksX1_choose_11 : cX1_choose.data.toList.drop 254 = dktX1_choose_11 := dk_seg dksX1_choose_10 24 rfl rfl
theorem dksX1_choose_12 : cX1_choose.data.toList.drop 278 = dktX1_choose_12 := dk_seg dksX1_choose_11 24 rfl rfl
theorem dX1_choose_0 : decode cX1_choose 0 = .ok (.iload_n 1, 1) := dk_27 (dk_at dksX1_choose_0 0 rfl rfl)
theorem dX1_choose_1 : decode cX1_choose 1 = .ok (.iload_n 2, 1) := dk_28 (dk_at dksX1_choose_0 1 rfl rfl)
theorem dX1_choose_2 : decode cX1_choose 2 = .ok (.if_icmp .ne 130, 3) := dk_160 0 130 (dk_at dksX1_choose_0 2 rfl rfl)
theorem dX1_choose_5 : decode cX1_choose 5 = .ok (.iconst 0, 1) := dk_3 (dk_at dksX1_choose_0 5 rfl rfl)
theorem dX1_choose_6 : decode cX1_choose 6 = .ok (.istore_n 3, 1) := dk_62 (dk_at dksX1_choose_0 6 rfl rfl)
theorem dX1_choose_7 : decode cX1_choose 7 = .ok (.iload_n 3, 1) := dk_29 (dk_at dksX1_choose_0 7 rfl rfl)
theorem dX1_choose_8 : decode cX1_choose 8 = .ok (.aload_n 0, 1) := dk_42 (dk_at dksX1_choose_0 8 rfl rfl)
theorem dX1_choose_9 : decode cX1_choose 9 = .ok (.getfield 39, 3) := dk_180 0 39 (dk_at dksX1_choose_0 9 rfl rfl)
theorem dX1_choose_12 : decode cX1_choose 12 = .ok (.invokevirtual 225, 3) := dk_182 0 225 (dk_at dksX1_choose_0 12 rfl rfl)
theorem dX1_choose_15 : decode cX1_choose 15 = .ok (.if_icmp .ge 19, 3) := dk_162 0 19 (dk_at dksX1_choose_0 15 rfl rfl)
theorem dX1_choose_18 : decode cX1_choose 18 = .ok (.aload_n 0, 1) := dk_42 (dk_at dksX1_choose_0 18 rfl rfl)
theorem dX1_choose_19 : decode cX1_choose 19 = .ok (.getfield 98, 3) := dk_180 0 98 (dk_at dksX1_choose_0 19 rfl rfl)
theorem dX1_choose_22 : decode cX1_choose 22 = .ok (.iload_n 3, 1) := dk_29 (dk_at dksX1_choose_0 22 rfl rfl)
theorem dX1_choose_23 : decode cX1_choose 23 = .ok (.iaload, 1) := dk_46 (dk_at dksX1_choose_0 23 rfl rfl)
theorem dX1_choose_24 : decode cX1_choose 24 = .ok (.ifCond .eq 4, 3) := dk_153 0 4 (dk_at dksX1_choose_1 0 rfl rfl)
theorem dX1_choose_27 : decode cX1_choose 27 = .ok (.return_, 1) := dk_177 (dk_at dksX1_choose_1 3 rfl rfl)
theorem dX1_choose_28 : decode cX1_choose 28 = .ok (.iinc 3 1, 3) := dk_132 3 1 (dk_at dksX1_choose_1 4 rfl rfl)
theorem dX1_choose_31 : decode cX1_choose 31 = .ok (.goto (-24), 3) := dk_167 255 232 (dk_at dksX1_choose_1 7 rfl rfl)
theorem dX1_choose_34 : decode cX1_choose 34 = .ok (.iconst 0, 1) := dk_3 (dk_at dksX1_choose_1 10 rfl rfl)
theorem dX1_choose_35 : decode cX1_choose 35 = .ok (.istore_n 3, 1) := dk_62 (dk_at dksX1_choose_1 11 rfl rfl)
theorem dX1_choose_36 : decode cX1_choose 36 = .ok (.iload_n 3, 1) := dk_29 (dk_at dksX1_choose_1 12 rfl rfl)
theorem dX1_choose_37 : decode cX1_choose 37 = .ok (.iload_n 2, 1) := dk_28 (dk_at dksX1_choose_1 13 rfl rfl)
theorem dX1_choose_38 : decode cX1_choose 38 = .ok (.if_icmp .ge 83, 3) := dk_162 0 83 (dk_at dksX1_choose_1 14 rfl rfl)
theorem dX1_choose_41 : decode cX1_choose 41 = .ok (.aload_n 0, 1) := dk_42 (dk_at dksX1_choose_1 17 rfl rfl)
theorem dX1_choose_42 : decode cX1_choose 42 = .ok (.getfield 89, 3) := dk_180 0 89 (dk_at dksX1_choose_1 18 rfl rfl)
theorem dX1_choose_45 : decode cX1_choose 45 = .ok (.iload_n 3, 1) := dk_29 (dk_at dksX1_choose_1 21 rfl rfl)
theorem dX1_choose_46 : decode cX1_choose 46 = .ok (.aload_n 0, 1) := dk_42 (dk_at dksX1_choose_1 22 rfl rfl)
theorem dX1_choose_47 : decode cX1_choose 47 = .ok (.getfield 372, 3) := dk_180 1 116 (dk_at dksX1_choose_2 0 rfl rfl)
theorem dX1_choose_50 : decode cX1_choose 50 = .ok (.ifCond .ne 12, 3) := dk_154 0 12 (dk_at dksX1_choose_2 3 rfl rfl)
theorem dX1_choose_53 : decode cX1_choose 53 = .ok (.aload_n 0, 1) := dk_42 (dk_at dksX1_choose_2 6 rfl rfl)
theorem dX1_choose_54 : decode cX1_choose 54 = .ok (.getfield 95, 3) := dk_180 0 95 (dk_at dksX1_choose_2 7 rfl rfl)
theorem dX1_choose_57 : decode cX1_choose 57 = .ok (.iload_n 3, 1) := dk_29 (dk_at dksX1_choose_2 10 rfl rfl)
theorem dX1_choose_58 : decode cX1_choose 58 = .ok (.iaload, 1) := dk_46 (dk_at dksX1_choose_2 11 rfl rfl)
theorem dX1_choose_59 : decode cX1_choose 59 = .ok (.goto 18, 3) := dk_167 0 18 (dk_at dksX1_choose_2 12 rfl rfl)
theorem dX1_choose_62 : decode cX1_choose 62 = .ok (.aload_n 0, 1) := dk_42 (dk_at dksX1_choose_2 15 rfl rfl)
theorem dX1_choose_63 : decode cX1_choose 63 = .ok (.getfield 89, 3) := dk_180 0 89 (dk_at dksX1_choose_2 16 rfl rfl)
theorem dX1_choose_66 : decode cX1_choose 66 = .ok (.iload_n 3, 1) := dk_29 (dk_at dksX1_choose_2 19 rfl rfl)
theorem dX1_choose_67 : decode cX1_choose 67 = .ok (.iaload, 1) := dk_46 (dk_at dksX1_choose_2 20 rfl rfl)
theorem dX1_choose_68 : decode cX1_choose 68 = .ok (.aload_n 0, 1) := dk_42 (dk_at dksX1_choose_2 21 rfl rfl)
theorem dX1_choose_69 : decode cX1_choose 69 = .ok (.getfield 95, 3) := dk_180 0 95 (dk_at dksX1_choose_3 0 rfl rfl)
theorem dX1_choose_72 : decode cX1_choose 72 = .ok (.iload_n 3, 1) := dk_29 (dk_at dksX1_choose_3 3 rfl rfl)
theorem dX1_choose_73 : decode cX1_choose 73 = .ok (.iaload, 1) := dk_46 (dk_at dksX1_choose_3 4 rfl rfl)
theorem dX1_choose_74 : decode cX1_choose 74 = .ok (.invokestatic 234, 3) := dk_184 0 234 (dk_at dksX1_choose_3 5 rfl rfl)
theorem dX1_choose_77 : decode cX1_choose 77 = .ok (.iastore, 1) := dk_79 (dk_at dksX1_choose_3 8 rfl rfl)
theorem dX1_choose_78 : decode cX1_choose 78 = .ok (.aload_n 0, 1) := dk_42 (dk_at dksX1_choose_3 9 rfl rfl)
theorem dX1_choose_79 : decode cX1_choose 79 = .ok (.getfield 92, 3) := dk_180 0 92 (dk_at dksX1_choose_3 10 rfl rfl)
theorem dX1_choose_82 : decode cX1_choose 82 = .ok (.iload_n 3, 1) := dk_29 (dk_at dksX1_choose_3 13 rfl rfl)
theorem dX1_choose_83 : decode cX1_choose 83 = .ok (.aload_n 0, 1) := dk_42 (dk_at dksX1_choose_3 14 rfl rfl)
theorem dX1_choose_84 : decode cX1_choose 84 = .ok (.getfield 372, 3) := dk_180 1 116 (dk_at dksX1_choose_3 15 rfl rfl)
theorem dX1_choose_87 : decode cX1_choose 87 = .ok (.ifCond .ne 12, 3) := dk_154 0 12 (dk_at dksX1_choose_3 18 rfl rfl)
theorem dX1_choose_90 : decode cX1_choose 90 = .ok (.aload_n 0, 1) := dk_42 (dk_at dksX1_choose_3 21 rfl rfl)
theorem dX1_choose_91 : decode cX1_choose 91 = .ok (.getfield 95, 3) := dk_180 0 95 (dk_at dksX1_choose_4 0 rfl rfl)
theorem dX1_choose_94 : decode cX1_choose 94 = .ok (.iload_n 3, 1) := dk_29 (dk_at dksX1_choose_4 3 rfl rfl)
theorem dX1_choose_95 : decode cX1_choose 95 = .ok (.iaload, 1) := dk_46 (dk_at dksX1_choose_4 4 rfl rfl)
theorem dX1_choose_96 : decode cX1_choose 96 = .ok (.goto 18, 3) := dk_167 0 18 (dk_at dksX1_choose_4 5 rfl rfl)
theorem dX1_choose_99 : decode cX1_choose 99 = .ok (.aload_n 0, 1) := dk_42 (dk_at dksX1_choose_4 8 rfl rfl)
theorem dX1_choose_100 : decode cX1_choose 100 = .ok (.getfield 92, 3) := dk_180 0 92 (dk_at dksX1_choose_4 9 rfl rfl)
theorem dX1_choose_103 : decode cX1_choose 103 = .ok (.iload_n 3, 1) := dk_29 (dk_at dksX1_choose_4 12 rfl rfl)
theorem dX1_choose_104 : decode cX1_choose 104 = .ok (.iaload, 1) := dk_46 (dk_at dksX1_choose_4 13 rfl rfl)
theorem dX1_choose_105 : decode cX1_choose 105 = .ok (.aload_n 0, 1) := dk_42 (dk_at dksX1_choose_4 14 rfl rfl)
theorem dX1_choose_106 : decode cX1_choose 106 = .ok (.getfield 95, 3) := dk_180 0 95 (dk_at dksX1_choose_4 15 rfl rfl)
theorem dX1_choose_109 : decode cX1_choose 109 = .ok (.iload_n 3, 1) := dk_29 (dk_at dksX1_choose_4 18 rfl rfl)
theorem dX1_choose_110 : decode cX1_choose 110 = .ok (.iaload, 1) := dk_46 (dk_at dksX1_choose_4 19 rfl rfl)
theorem dX1_choose_111 : decode cX1_choose 111 = .ok (.invokestatic 381, 3) := dk_184 1 125 (dk_at dksX1_choose_4 20 rfl rfl)
theorem dX1_choose_114 : decode cX1_choose 114 = .ok (.iastore, 1) := dk_79 (dk_at dksX1_choose_4 23 rfl rfl)
theorem dX1_choose_115 : decode cX1_choose 115 = .ok (.iinc 3 1, 3) := dk_132 3 1 (dk_at dksX1_choose_5 0 rfl rfl)
theorem dX1_choose_118 : decode cX1_choose 118 = .ok (.goto (-82), 3) := dk_167 255 174 (dk_at dksX1_choose_5 3 rfl rfl)
theorem dX1_choose_121 : decode cX1_choose 121 = .ok (.aload_n 0, 1) := dk_42 (dk_at dksX1_choose_5 6 rfl rfl)
theorem dX1_choose_122 : decode cX1_choose 122 = .ok (.dup, 1) := dk_89 (dk_at dksX1_choose_5 7 rfl rfl)
theorem dX1_choose_123 : decode cX1_choose 123 = .ok (.getfield 372, 3) := dk_180 1 116 (dk_at dksX1_choose_5 8 rfl rfl)
theorem dX1_choose_126 : decode cX1_choose 126 = .ok (.iconst 1, 1) := dk_4 (dk_at dksX1_choose_5 11 rfl rfl)
theorem dX1_choose_127 : decode cX1_choose 127 = .ok (.iadd, 1) := dk_96 (dk_at dksX1_choose_5 12 rfl rfl)
theorem dX1_choose_128 : decode cX1_choose 128 = .ok (.putfield 372, 3) := dk_181 1 116 (dk_at dksX1_choose_5 13 rfl rfl)
theorem dX1_choose_131 : decode cX1_choose 131 = .ok (.return_, 1) := dk_177 (dk_at dksX1_choose_5 16 rfl rfl)
theorem dX1_choose_132 : decode cX1_choose 132 = .ok (.iconst 0, 1) := dk_3 (dk_at dksX1_choose_5 17 rfl rfl)
theorem dX1_choose_133 : decode cX1_choose 133 = .ok (.istore_n 3, 1) := dk_62 (dk_at dksX1_choose_5 18 rfl rfl)
theorem dX1_choose_134 : decode cX1_choose 134 = .ok (.iconst 1, 1) := dk_4 (dk_at dksX1_choose_5 19 rfl rfl)
theorem dX1_choose_135 : decode cX1_choose 135 = .ok (.istore 4, 2) := dk_54 4 (dk_at dksX1_choose_5 20 rfl rfl)
theorem dX1_choose_137 : decode cX1_choose 137 = .ok (.iconst 0, 1) := dk_3 (dk_at dksX1_choose_5 22 rfl rfl)
theorem dX1_choose_138 : decode cX1_choose 138 = .ok (.istore 5, 2) := dk_54 5 (dk_at dksX1_choose_6 0 rfl rfl)
theorem dX1_choose_140 : decode cX1_choose 140 = .ok (.iload 5, 2) := dk_21 5 (dk_at dksX1_choose_6 2 rfl rfl)
theorem dX1_choose_142 : decode cX1_choose 142 = .ok (.bipush 9, 2) := dk_16 9 (dk_at dksX1_choose_6 4 rfl rfl)
theorem dX1_choose_144 : decode cX1_choose 144 = .ok (.if_icmp .gt 95, 3) := dk_163 0 95 (dk_at dksX1_choose_6 6 rfl rfl)
theorem dX1_choose_147 : decode cX1_choose 147 = .ok (.iload 4, 2) := dk_21 4 (dk_at dksX1_choose_6 9 rfl rfl)
theorem dX1_choose_149 : decode cX1_choose 149 = .ok (.ifCond .eq 90, 3) := dk_153 0 90 (dk_at dksX1_choose_6 11 rfl rfl)
theorem dX1_choose_152 : decode cX1_choose 152 = .ok (.aload_n 0, 1) := dk_42 (dk_at dksX1_choose_6 14 rfl rfl)
theorem dX1_choose_153 : decode cX1_choose 153 = .ok (.getfield 95, 3) := dk_180 0 95 (dk_at dksX1_choose_6 15 rfl rfl)
theorem dX1_choose_156 : decode cX1_choose 156 = .ok (.iload_n 1, 1) := dk_27 (dk_at dksX1_choose_6 18 rfl rfl)
theorem dX1_choose_157 : decode cX1_choose 157 = .ok (.iload 5, 2) := dk_21 5 (dk_at dksX1_choose_6 19 rfl rfl)
theorem dX1_choose_159 : decode cX1_choose 159 = .ok (.iastore, 1) := dk_79 (dk_at dksX1_choose_6 21 rfl rfl)
theorem dX1_choose_160 : decode cX1_choose 160 = .ok (.aload_n 0, 1) := dk_42 (dk_at dksX1_choose_6 22 rfl rfl)
theorem dX1_choose_161 : decode cX1_choose 161 = .ok (.iload_n 1, 1) := dk_27 (dk_at dksX1_choose_6 23 rfl rfl)
theorem dX1_choose_162 : decode cX1_choose 162 = .ok (.iconst 1, 1) := dk_4 (dk_at dksX1_choose_7 0 rfl rfl)
theorem dX1_choose_163 : decode cX1_choose 163 = .ok (.iadd, 1) := dk_96 (dk_at dksX1_choose_7 1 rfl rfl)
theorem dX1_choose_164 : decode cX1_choose 164 = .ok (.iload_n 2, 1) := dk_28 (dk_at dksX1_choose_7 2 rfl rfl)
theorem dX1_choose_165 : decode cX1_choose 165 = .ok (.invokevirtual 375, 3) := dk_182 1 119 (dk_at dksX1_choose_7 3 rfl rfl)
theorem dX1_choose_168 : decode cX1_choose 168 = .ok (.iconst 0, 1) := dk_3 (dk_at dksX1_choose_7 6 rfl rfl)
theorem dX1_choose_169 : decode cX1_choose 169 = .ok (.istore 6, 2) := dk_54 6 (dk_at dksX1_choose_7 7 rfl rfl)
theorem dX1_choose_171 : decode cX1_choose 171 = .ok (.iload 6, 2) := dk_21 6 (dk_at dksX1_choose_7 9 rfl rfl)
theorem dX1_choose_173 : decode cX1_choose 173 = .ok (.aload_n 0, 1) := dk_42 (dk_at dksX1_choose_7 11 rfl rfl)
theorem dX1_choose_174 : decode cX1_choose 174 = .ok (.getfield 39, 3) := dk_180 0 39 (dk_at dksX1_choose_7 12 rfl rfl)
theorem dX1_choose_177 : decode cX1_choose 177 = .ok (.invokevirtual 225, 3) := dk_182 0 225 (dk_at dksX1_choose_7 15 rfl rfl)
theorem dX1_choose_180 : decode cX1_choose 180 = .ok (.if_icmp .ge 50, 3) := dk_162 0 50 (dk_at dksX1_choose_7 18 rfl rfl)
theorem dX1_choose_183 : decode cX1_choose 183 = .ok (.aload_n 0, 1) := dk_42 (dk_at dksX1_choose_7 21 rfl rfl)
theorem dX1_choose_184 : decode cX1_choose 184 = .ok (.getfield 98, 3) := dk_180 0 98 (dk_at dksX1_choose_8 0 rfl rfl)
theorem dX1_choose_187 : decode cX1_choose 187 = .ok (.iload 6, 2) := dk_21 6 (dk_at dksX1_choose_8 3 rfl rfl)
theorem dX1_choose_189 : decode cX1_choose 189 = .ok (.dup2, 1) := dk_92 (dk_at dksX1_choose_8 5 rfl rfl)
theorem dX1_choose_190 : decode cX1_choose 190 = .ok (.iaload, 1) := dk_46 (dk_at dksX1_choose_8 6 rfl rfl)
theorem dX1_choose_191 : decode cX1_choose 191 = .ok (.aload_n 0, 1) := dk_42 (dk_at dksX1_choose_8 7 rfl rfl)
theorem dX1_choose_192 : decode cX1_choose 192 = .ok (.getfield 86, 3) := dk_180 0 86 (dk_at dksX1_choose_8 8 rfl rfl)
theorem dX1_choose_195 : decode cX1_choose 195 = .ok (.iload_n 1, 1) := dk_27 (dk_at dksX1_choose_8 11 rfl rfl)
theorem dX1_choose_196 : decode cX1_choose 196 = .ok (.aaload, 1) := dk_50 (dk_at dksX1_choose_8 12 rfl rfl)
theorem dX1_choose_197 : decode cX1_choose 197 = .ok (.iload 6, 2) := dk_21 6 (dk_at dksX1_choose_8 13 rfl rfl)
theorem dX1_choose_199 : decode cX1_choose 199 = .ok (.iaload, 1) := dk_46 (dk_at dksX1_choose_8 15 rfl rfl)
theorem dX1_choose_200 : decode cX1_choose 200 = .ok (.isub, 1) := dk_100 (dk_at dksX1_choose_8 16 rfl rfl)
theorem dX1_choose_201 : decode cX1_choose 201 = .ok (.iastore, 1) := dk_79 (dk_at dksX1_choose_8 17 rfl rfl)
theorem dX1_choose_202 : decode cX1_choose 202 = .ok (.iload 4, 2) := dk_21 4 (dk_at dksX1_choose_8 18 rfl rfl)
theorem dX1_choose_204 : decode cX1_choose 204 = .ok (.ifCond .eq 17, 3) := dk_153 0 17 (dk_at dksX1_choose_8 20 rfl rfl)
theorem dX1_choose_207 : decode cX1_choose 207 = .ok (.aload_n 0, 1) := dk_42 (dk_at dksX1_choose_8 23 rfl rfl)
theorem dX1_choose_208 : decode cX1_choose 208 = .ok (.getfield 98, 3) := dk_180 0 98 (dk_at dksX1_choose_9 0 rfl rfl)
theorem dX1_choose_211 : decode cX1_choose 211 = .ok (.iload 6, 2) := dk_21 6 (dk_at dksX1_choose_9 3 rfl rfl)
theorem dX1_choose_213 : decode cX1_choose 213 = .ok (.iaload, 1) := dk_46 (dk_at dksX1_choose_9 5 rfl rfl)
theorem dX1_choose_214 : decode cX1_choose 214 = .ok (.ifCond .lt 7, 3) := dk_155 0 7 (dk_at dksX1_choose_9 6 rfl rfl)
theorem dX1_choose_217 : decode cX1_choose 217 = .ok (.iconst 1, 1) := dk_4 (dk_at dksX1_choose_9 9 rfl rfl)
theorem dX1_choose_218 : decode cX1_choose 218 = .ok (.goto 4, 3) := dk_167 0 4 (dk_at dksX1_choose_9 10 rfl rfl)
theorem dX1_choose_221 : decode cX1_choose 221 = .ok (.iconst 0, 1) := dk_3 (dk_at dksX1_choose_9 13 rfl rfl)
theorem dX1_choose_222 : decode cX1_choose 222 = .ok (.istore 4, 2) := dk_54 4 (dk_at dksX1_choose_9 14 rfl rfl)
theorem dX1_choose_224 : decode cX1_choose 224 = .ok (.iinc 6 1, 3) := dk_132 6 1 (dk_at dksX1_choose_9 16 rfl rfl)
theorem dX1_choose_227 : decode cX1_choose 227 = .ok (.goto (-56), 3) := dk_167 255 200 (dk_at dksX1_choose_9 19 rfl rfl)
theorem dX1_choose_230 : decode cX1_choose 230 = .ok (.iinc 3 1, 3) := dk_132 3 1 (dk_at dksX1_choose_10 0 rfl rfl)
theorem dX1_choose_233 : decode cX1_choose 233 = .ok (.iinc 5 1, 3) := dk_132 5 1 (dk_at dksX1_choose_10 3 rfl rfl)
theorem dX1_choose_236 : decode cX1_choose 236 = .ok (.goto (-96), 3) := dk_167 255 160 (dk_at dksX1_choose_10 6 rfl rfl)
theorem dX1_choose_239 : decode cX1_choose 239 = .ok (.iconst 0, 1) := dk_3 (dk_at dksX1_choose_10 9 rfl rfl)
theorem dX1_choose_240 : decode cX1_choose 240 = .ok (.istore 5, 2) := dk_54 5 (dk_at dksX1_choose_10 10 rfl rfl)
theorem dX1_choose_242 : decode cX1_choose 242 = .ok (.iload 5, 2) := dk_21 5 (dk_at dksX1_choose_10 12 rfl rfl)
theorem dX1_choose_244 : decode cX1_choose 244 = .ok (.aload_n 0, 1) := dk_42 (dk_at dksX1_choose_10 14 rfl rfl)
theorem dX1_choose_245 : decode cX1_choose 245 = .ok (.getfield 39, 3) := dk_180 0 39 (dk_at dksX1_choose_10 15 rfl rfl)
theorem dX1_choose_248 : decode cX1_choose 248 = .ok (.invokevirtual 225, 3) := dk_182 0 225 (dk_at dksX1_choose_10 18 rfl rfl)
theorem dX1_choose_251 : decode cX1_choose 251 = .ok (.if_icmp .ge 30, 3) := dk_162 0 30 (dk_at dksX1_choose_10 21 rfl rfl)
theorem dX1_choose_254 : decode cX1_choose 254 = .ok (.aload_n 0, 1) := dk_42 (dk_at dksX1_choose_11 0 rfl rfl)
theorem dX1_choose_255 : decode cX1_choose 255 = .ok (.getfield 98, 3) := dk_180 0 98 (dk_at dksX1_choose_11 1 rfl rfl)
theorem dX1_choose_258 : decode cX1_choose 258 = .ok (.iload 5, 2) := dk_21 5 (dk_at dksX1_choose_11 4 rfl rfl)
theorem dX1_choose_260 : decode cX1_choose 260 = .ok (.dup2, 1) := dk_92 (dk_at dksX1_choose_11 6 rfl rfl)
theorem dX1_choose_261 : decode cX1_choose 261 = .ok (.iaload, 1) := dk_46 (dk_at dksX1_choose_11 7 rfl rfl)
theorem dX1_choose_262 : decode cX1_choose 262 = .ok (.iload_n 3, 1) := dk_29 (dk_at dksX1_choose_11 8 rfl rfl)
theorem dX1_choose_263 : decode cX1_choose 263 = .ok (.aload_n 0, 1) := dk_42 (dk_at dksX1_choose_11 9 rfl rfl)
theorem dX1_choose_264 : decode cX1_choose 264 = .ok (.getfield 86, 3) := dk_180 0 86 (dk_at dksX1_choose_11 10 rfl rfl)
theorem dX1_choose_267 : decode cX1_choose 267 = .ok (.iload_n 1, 1) := dk_27 (dk_at dksX1_choose_11 13 rfl rfl)
theorem dX1_choose_268 : decode cX1_choose 268 = .ok (.aaload, 1) := dk_50 (dk_at dksX1_choose_11 14 rfl rfl)
theorem dX1_choose_269 : decode cX1_choose 269 = .ok (.iload 5, 2) := dk_21 5 (dk_at dksX1_choose_11 15 rfl rfl)
theorem dX1_choose_271 : decode cX1_choose 271 = .ok (.iaload, 1) := dk_46 (dk_at dksX1_choose_11 17 rfl rfl)
theorem dX1_choose_272 : decode cX1_choose 272 = .ok (.imul, 1) := dk_104 (dk_at dksX1_choose_11 18 rfl rfl)
theorem dX1_choose_273 : decode cX1_choose 273 = .ok (.iadd, 1) := dk_96 (dk_at dksX1_choose_11 19 rfl rfl)
theorem dX1_choose_274 : decode cX1_choose 274 = .ok (.iastore, 1) := dk_79 (dk_at dksX1_choose_11 20 rfl rfl)
theorem dX1_choose_275 : decode cX1_choose 275 = .ok (.iinc 5 1, 3) := dk_132 5 1 (dk_at dksX1_choose_11 21 rfl rfl)
theorem dX1_choose_278 : decode cX1_choose 278 = .ok (.goto (-36), 3) := dk_167 255 220 (dk_at dksX1_choose_12 0 rfl rfl)
theorem dX1_choose_281 : decode cX1_choose 281 = .ok (.return_, 1) := dk_177 (dk_at dksX1_choose_12 3 rfl rfl)
abbrev cX1_reads : ByteArray := prog_1_method_54_code
def yX1_reads : MethodName := ⟨RX1, "reads", "(II)I"⟩
def dkwX1_reads_1 : List UInt8 := [27, 46, 167, 0, 18, 28, 4, 160, 0, 12, 42, 180, 0, 92, 27, 46, 167, 0, 4, 2, 172]
abbrev dktX1_reads_1 : List UInt8 := dkwX1_reads_1 ++ []
def dkwX1_reads_0 : List UInt8 := [27, 3, 42, 180, 1, 122, 4, 100, 184, 0, 112, 154, 0, 5, 2, 172, 28, 154, 0, 12, 42, 180, 0, 89]
abbrev dktX1_reads_0 : List UInt8 := dkwX1_reads_0 ++ dktX1_reads_1
theorem dksX1_reads_0 : cX1_reads.data.toList.drop 0 = dktX1_reads_0 := by decide +kernel
theorem dksX1_reads_1 : cX1_reads.data.toList.drop 24 = dktX1_reads_1 := dk_seg dksX1_reads_0 24 rfl rfl
theorem dX1_reads_0 : decode cX1_reads 0 = .ok (.iload_n 1, 1) := dk_27 (dk_at dksX1_reads_0 0 rfl rfl)
theorem dX1_reads_1 : decode cX1_reads 1 = .ok (.iconst 0, 1) := dk_3 (dk_at dksX1_reads_0 1 rfl rfl)
theorem dX1_reads_2 : decode cX1_reads 2 = .ok (.aload_n 0, 1) := dk_42 (dk_at dksX1_reads_0 2 rfl rfl)
theorem dX1_reads_3 : decode cX1_reads 3 = .ok (.getfield 378, 3) := dk_180 1 122 (dk_at dksX1_reads_0 3 rfl rfl)
theorem dX1_reads_6 : decode cX1_reads 6 = .ok (.iconst 1, 1) := dk_4 (dk_at dksX1_reads_0 6 rfl rfl)
theorem dX1_reads_7 : decode cX1_reads 7 = .ok (.isub, 1) := dk_100 (dk_at dksX1_reads_0 7 rfl rfl)
theorem dX1_reads_8 : decode cX1_reads 8 = .ok (.invokestatic 112, 3) := dk_184 0 112 (dk_at dksX1_reads_0 8 rfl rfl)
theorem dX1_reads_11 : decode cX1_reads 11 = .ok (.ifCond .ne 5, 3) := dk_154 0 5 (dk_at dksX1_reads_0 11 rfl rfl)
theorem dX1_reads_14 : decode cX1_reads 14 = .ok (.iconst (-1), 1) := dk_2 (dk_at dksX1_reads_0 14 rfl rfl)
theorem dX1_reads_15 : decode cX1_reads 15 = .ok (.ireturn, 1) := dk_172 (dk_at dksX1_reads_0 15 rfl rfl)
theorem dX1_reads_16 : decode cX1_reads 16 = .ok (.iload_n 2, 1) := dk_28 (dk_at dksX1_reads_0 16 rfl rfl)
theorem dX1_reads_17 : decode cX1_reads 17 = .ok (.ifCond .ne 12, 3) := dk_154 0 12 (dk_at dksX1_reads_0 17 rfl rfl)
theorem dX1_reads_20 : decode cX1_reads 20 = .ok (.aload_n 0, 1) := dk_42 (dk_at dksX1_reads_0 20 rfl rfl)
theorem dX1_reads_21 : decode cX1_reads 21 = .ok (.getfield 89, 3) := dk_180 0 89 (dk_at dksX1_reads_0 21 rfl rfl)
theorem dX1_reads_24 : decode cX1_reads 24 = .ok (.iload_n 1, 1) := dk_27 (dk_at dksX1_reads_1 0 rfl rfl)
theorem dX1_reads_25 : decode cX1_reads 25 = .ok (.iaload, 1) := dk_46 (dk_at dksX1_reads_1 1 rfl rfl)
theorem dX1_reads_26 : decode cX1_reads 26 = .ok (.goto 18, 3) := dk_167 0 18 (dk_at dksX1_reads_1 2 rfl rfl)
theorem dX1_reads_29 : decode cX1_reads 29 = .ok (.iload_n 2, 1) := dk_28 (dk_at dksX1_reads_1 5 rfl rfl)
theorem dX1_reads_30 : decode cX1_reads 30 = .ok (.iconst 1, 1) := dk_4 (dk_at dksX1_reads_1 6 rfl rfl)
theorem dX1_reads_31 : decode cX1_reads 31 = .ok (.if_icmp .ne 12, 3) := dk_160 0 12 (dk_at dksX1_reads_1 7 rfl rfl)
theorem dX1_reads_34 : decode cX1_reads 34 = .ok (.aload_n 0, 1) := dk_42 (dk_at dksX1_reads_1 10 rfl rfl)
theorem dX1_reads_35 : decode cX1_reads 35 = .ok (.getfield 92, 3) := dk_180 0 92 (dk_at dksX1_reads_1 11 rfl rfl)
theorem dX1_reads_38 : decode cX1_reads 38 = .ok (.iload_n 1, 1) := dk_27 (dk_at dksX1_reads_1 14 rfl rfl)
theorem dX1_reads_39 : decode cX1_reads 39 = .ok (.iaload, 1) := dk_46 (dk_at dksX1_reads_1 15 rfl rfl)
theorem dX1_reads_40 : decode cX1_reads 40 = .ok (.goto 4, 3) := dk_167 0 4 (dk_at dksX1_reads_1 16 rfl rfl)
theorem dX1_reads_43 : decode cX1_reads 43 = .ok (.iconst (-1), 1) := dk_2 (dk_at dksX1_reads_1 19 rfl rfl)
theorem dX1_reads_44 : decode cX1_reads 44 = .ok (.ireturn, 1) := dk_172 (dk_at dksX1_reads_1 20 rfl rfl)
abbrev cX1_fits : ByteArray := prog_1_method_55_code
def yX1_fits : MethodName := ⟨RX1, "fits", "(II)I"⟩
def dkwX1_fits_5 : List UInt8 := [21, 4, 4, 21, 5, 120, 128, 54, 4, 132, 5, 1, 167, 255, 161, 21, 4, 172]
abbrev dktX1_fits_5 : List UInt8 := dkwX1_fits_5 ++ []
def dkwX1_fits_4 : List UInt8 := [182, 0, 116, 160, 0, 7, 4, 167, 0, 4, 3, 54, 6, 132, 7, 1, 167, 255, 217, 21, 6, 153, 0, 12]
abbrev dktX1_fits_4 : List UInt8 := dkwX1_fits_4 ++ dktX1_fits_5
def dkwX1_fits_3 : List UInt8 := [21, 7, 29, 162, 0, 39, 21, 6, 153, 0, 34, 42, 180, 0, 80, 21, 7, 4, 96, 46, 42, 21, 7]
abbrev dktX1_fits_3 : List UInt8 := dkwX1_fits_3 ++ dktX1_fits_4
def dkwX1_fits_2 : List UInt8 := [182, 1, 113, 153, 0, 15, 42, 180, 1, 103, 29, 160, 0, 7, 4, 167, 0, 4, 3, 54, 6, 3, 54, 7]
abbrev dktX1_fits_2 : List UInt8 := dkwX1_fits_2 ++ dktX1_fits_3
def dkwX1_fits_1 : List UInt8 := [154, 0, 5, 2, 172, 3, 54, 4, 3, 54, 5, 21, 5, 16, 6, 162, 0, 94, 42, 27, 28, 21, 5]
abbrev dktX1_fits_1 : List UInt8 := dkwX1_fits_1 ++ dktX1_fits_2
def dkwX1_fits_0 : List UInt8 := [42, 182, 0, 109, 62, 42, 27, 28, 182, 0, 186, 153, 0, 14, 29, 4, 17, 0, 200, 184, 0, 112]
abbrev dktX1_fits_0 : List UInt8 := dkwX1_fits_0 ++ dktX1_fits_1
theorem dksX1_fits_0 : cX1_fits.data.toList.drop 0 = dktX1_fits_0 := by decide +kernel
theorem dksX1_fits_1 : cX1_fits.data.toList.drop 22 = dktX1_fits_1 := dk_seg dksX1_fits_0 22 rfl rfl
theorem dksX1_fits_2 : cX1_fits.data.toList.drop 45 = dktX1_fits_2 := dk_seg dksX1_fits_1 23 rfl rfl
theorem dksX1_fits_3 : cX1_fits.data.toList.drop 69 = dktX1_fits_3 := dk_seg dksX1_fits_2 24 rfl rfl
theorem dksX1_fits_4 : cX1_fits.data.toList.drop 92 = dktX1_fits_4 := dk_seg dksX1_fits_3 23 rfl rfl
theorem dksX1_fits_5 : cX1_fits.data.toList.drop 116 = dktX1_fits_5 := dk_seg dksX1_fits_4 24 rfl rfl
theorem dX1_fits_0 : decode cX1_fits 0 = .ok (.aload_n 0, 1) := dk_42 (dk_at dksX1_fits_0 0 rfl rfl)
theorem dX1_fits_1 : decode cX1_fits 1 = .ok (.invokevirtual 109, 3) := dk_182 0 109 (dk_at dksX1_fits_0 1 rfl rfl)
theorem dX1_fits_4 : decode cX1_fits 4 = .ok (.istore_n 3, 1) := dk_62 (dk_at dksX1_fits_0 4 rfl rfl)
theorem dX1_fits_5 : decode cX1_fits 5 = .ok (.aload_n 0, 1) := dk_42 (dk_at dksX1_fits_0 5 rfl rfl)
theorem dX1_fits_6 : decode cX1_fits 6 = .ok (.iload_n 1, 1) := dk_27 (dk_at dksX1_fits_0 6 rfl rfl)
theorem dX1_fits_7 : decode cX1_fits 7 = .ok (.iload_n 2, 1) := dk_28 (dk_at dksX1_fits_0 7 rfl rfl)
theorem dX1_fits_8 : decode cX1_fits 8 = .ok (.invokevirtual 186, 3) := dk_182 0 186 (dk_at dksX1_fits_0 8 rfl rfl)
theorem dX1_fits_11 : decode cX1_fits 11 = .ok (.ifCond .eq 14, 3) := dk_153 0 14 (dk_at dksX1_fits_0 11 rfl rfl)
theorem dX1_fits_14 : decode cX1_fits 14 = .ok (.iload_n 3, 1) := dk_29 (dk_at dksX1_fits_0 14 rfl rfl)
theorem dX1_fits_15 : decode cX1_fits 15 = .ok (.iconst 1, 1) := dk_4 (dk_at dksX1_fits_0 15 rfl rfl)
theorem dX1_fits_16 : decode cX1_fits 16 = .ok (.sipush 200, 3) := dk_17 0 200 (dk_at dksX1_fits_0 16 rfl rfl)
theorem dX1_fits_19 : decode cX1_fits 19 = .ok (.invokestatic 112, 3) := dk_184 0 112 (dk_at dksX1_fits_0 19 rfl rfl)
theorem dX1_fits_22 : decode cX1_fits 22 = .ok (.ifCond .ne 5, 3) := dk_154 0 5 (dk_at dksX1_fits_1 0 rfl rfl)
theorem dX1_fits_25 : decode cX1_fits 25 = .ok (.iconst (-1), 1) := dk_2 (dk_at dksX1_fits_1 3 rfl rfl)
theorem dX1_fits_26 : decode cX1_fits 26 = .ok (.ireturn, 1) := dk_172 (dk_at dksX1_fits_1 4 rfl rfl)
theorem dX1_fits_27 : decode cX1_fits 27 = .ok (.iconst 0, 1) := dk_3 (dk_at dksX1_fits_1 5 rfl rfl)
theorem dX1_fits_28 : decode cX1_fits 28 = .ok (.istore 4, 2) := dk_54 4 (dk_at dksX1_fits_1 6 rfl rfl)
theorem dX1_fits_30 : decode cX1_fits 30 = .ok (.iconst 0, 1) := dk_3 (dk_at dksX1_fits_1 8 rfl rfl)
theorem dX1_fits_31 : decode cX1_fits 31 = .ok (.istore 5, 2) := dk_54 5 (dk_at dksX1_fits_1 9 rfl rfl)
theorem dX1_fits_33 : decode cX1_fits 33 = .ok (.iload 5, 2) := dk_21 5 (dk_at dksX1_fits_1 11 rfl rfl)
theorem dX1_fits_35 : decode cX1_fits 35 = .ok (.bipush 6, 2) := dk_16 6 (dk_at dksX1_fits_1 13 rfl rfl)
theorem dX1_fits_37 : decode cX1_fits 37 = .ok (.if_icmp .ge 94, 3) := dk_162 0 94 (dk_at dksX1_fits_1 15 rfl rfl)
theorem dX1_fits_40 : decode cX1_fits 40 = .ok (.aload_n 0, 1) := dk_42 (dk_at dksX1_fits_1 18 rfl rfl)
theorem dX1_fits_41 : decode cX1_fits 41 = .ok (.iload_n 1, 1) := dk_27 (dk_at dksX1_fits_1 19 rfl rfl)
theorem dX1_fits_42 : decode cX1_fits 42 = .ok (.iload_n 2, 1) := dk_28 (dk_at dksX1_fits_1 20 rfl rfl)
theorem dX1_fits_43 : decode cX1_fits 43 = .ok (.iload 5, 2) := dk_21 5 (dk_at dksX1_fits_1 21 rfl rfl)
theorem dX1_fits_45 : decode cX1_fits 45 = .ok (.invokevirtual 369, 3) := dk_182 1 113 (dk_at dksX1_fits_2 0 rfl rfl)
theorem dX1_fits_48 : decode cX1_fits 48 = .ok (.ifCond .eq 15, 3) := dk_153 0 15 (dk_at dksX1_fits_2 3 rfl rfl)
theorem dX1_fits_51 : decode cX1_fits 51 = .ok (.aload_n 0, 1) := dk_42 (dk_at dksX1_fits_2 6 rfl rfl)
theorem dX1_fits_52 : decode cX1_fits 52 = .ok (.getfield 359, 3) := dk_180 1 103 (dk_at dksX1_fits_2 7 rfl rfl)
theorem dX1_fits_55 : decode cX1_fits 55 = .ok (.iload_n 3, 1) := dk_29 (dk_at dksX1_fits_2 10 rfl rfl)
theorem dX1_fits_56 : decode cX1_fits 56 = .ok (.if_icmp .ne 7, 3) := dk_160 0 7 (dk_at dksX1_fits_2 11 rfl rfl)
theorem dX1_fits_59 : decode cX1_fits 59 = .ok (.iconst 1, 1) := dk_4 (dk_at dksX1_fits_2 14 rfl rfl)
theorem dX1_fits_60 : decode cX1_fits 60 = .ok (.goto 4, 3) := dk_167 0 4 (dk_at dksX1_fits_2 15 rfl rfl)
theorem dX1_fits_63 : decode cX1_fits 63 = .ok (.iconst 0, 1) := dk_3 (dk_at dksX1_fits_2 18 rfl rfl)
theorem dX1_fits_64 : decode cX1_fits 64 = .ok (.istore 6, 2) := dk_54 6 (dk_at dksX1_fits_2 19 rfl rfl)
theorem dX1_fits_66 : decode cX1_fits 66 = .ok (.iconst 0, 1) := dk_3 (dk_at dksX1_fits_2 21 rfl rfl)
theorem dX1_fits_67 : decode cX1_fits 67 = .ok (.istore 7, 2) := dk_54 7 (dk_at dksX1_fits_2 22 rfl rfl)
theorem dX1_fits_69 : decode cX1_fits 69 = .ok (.iload 7, 2) := dk_21 7 (dk_at dksX1_fits_3 0 rfl rfl)
theorem dX1_fits_71 : decode cX1_fits 71 = .ok (.iload_n 3, 1) := dk_29 (dk_at dksX1_fits_3 2 rfl rfl)
theorem dX1_fits_72 : decode cX1_fits 72 = .ok (.if_icmp .ge 39, 3) := dk_162 0 39 (dk_at dksX1_fits_3 3 rfl rfl)
theorem dX1_fits_75 : decode cX1_fits 75 = .ok (.iload 6, 2) := dk_21 6 (dk_at dksX1_fits_3 6 rfl rfl)
theorem dX1_fits_77 : decode cX1_fits 77 = .ok (.ifCond .eq 34, 3) := dk_153 0 34 (dk_at dksX1_fits_3 8 rfl rfl)
theorem dX1_fits_80 : decode cX1_fits 80 = .ok (.aload_n 0, 1) := dk_42 (dk_at dksX1_fits_3 11 rfl rfl)
theorem dX1_fits_81 : decode cX1_fits 81 = .ok (.getfield 80, 3) := dk_180 0 80 (dk_at dksX1_fits_3 12 rfl rfl)
theorem dX1_fits_84 : decode cX1_fits 84 = .ok (.iload 7, 2) := dk_21 7 (dk_at dksX1_fits_3 15 rfl rfl)
theorem dX1_fits_86 : decode cX1_fits 86 = .ok (.iconst 1, 1) := dk_4 (dk_at dksX1_fits_3 17 rfl rfl)
theorem dX1_fits_87 : decode cX1_fits 87 = .ok (.iadd, 1) := dk_96 (dk_at dksX1_fits_3 18 rfl rfl)
theorem dX1_fits_88 : decode cX1_fits 88 = .ok (.iaload, 1) := dk_46 (dk_at dksX1_fits_3 19 rfl rfl)
theorem dX1_fits_89 : decode cX1_fits 89 = .ok (.aload_n 0, 1) := dk_42 (dk_at dksX1_fits_3 20 rfl rfl)
theorem dX1_fits_90 : decode cX1_fits 90 = .ok (.iload 7, 2) := dk_21 7 (dk_at dksX1_fits_3 21 rfl rfl)
theorem dX1_fits_92 : decode cX1_fits 92 = .ok (.invokevirtual 116, 3) := dk_182 0 116 (dk_at dksX1_fits_4 0 rfl rfl)
theorem dX1_fits_95 : decode cX1_fits 95 = .ok (.if_icmp .ne 7, 3) := dk_160 0 7 (dk_at dksX1_fits_4 3 rfl rfl)
theorem dX1_fits_98 : decode cX1_fits 98 = .ok (.iconst 1, 1) := dk_4 (dk_at dksX1_fits_4 6 rfl rfl)
theorem dX1_fits_99 : decode cX1_fits 99 = .ok (.goto 4, 3) := dk_167 0 4 (dk_at dksX1_fits_4 7 rfl rfl)
theorem dX1_fits_102 : decode cX1_fits 102 = .ok (.iconst 0, 1) := dk_3 (dk_at dksX1_fits_4 10 rfl rfl)
theorem dX1_fits_103 : decode cX1_fits 103 = .ok (.istore 6, 2) := dk_54 6 (dk_at dksX1_fits_4 11 rfl rfl)
theorem dX1_fits_105 : decode cX1_fits 105 = .ok (.iinc 7 1, 3) := dk_132 7 1 (dk_at dksX1_fits_4 13 rfl rfl)
theorem dX1_fits_108 : decode cX1_fits 108 = .ok (.goto (-39), 3) := dk_167 255 217 (dk_at dksX1_fits_4 16 rfl rfl)
theorem dX1_fits_111 : decode cX1_fits 111 = .ok (.iload 6, 2) := dk_21 6 (dk_at dksX1_fits_4 19 rfl rfl)
theorem dX1_fits_113 : decode cX1_fits 113 = .ok (.ifCond .eq 12, 3) := dk_153 0 12 (dk_at dksX1_fits_4 21 rfl rfl)
theorem dX1_fits_116 : decode cX1_fits 116 = .ok (.iload 4, 2) := dk_21 4 (dk_at dksX1_fits_5 0 rfl rfl)
theorem dX1_fits_118 : decode cX1_fits 118 = .ok (.iconst 1, 1) := dk_4 (dk_at dksX1_fits_5 2 rfl rfl)
theorem dX1_fits_119 : decode cX1_fits 119 = .ok (.iload 5, 2) := dk_21 5 (dk_at dksX1_fits_5 3 rfl rfl)
theorem dX1_fits_121 : decode cX1_fits 121 = .ok (.ishl, 1) := dk_120 (dk_at dksX1_fits_5 5 rfl rfl)
theorem dX1_fits_122 : decode cX1_fits 122 = .ok (.ior, 1) := dk_128 (dk_at dksX1_fits_5 6 rfl rfl)
theorem dX1_fits_123 : decode cX1_fits 123 = .ok (.istore 4, 2) := dk_54 4 (dk_at dksX1_fits_5 7 rfl rfl)
theorem dX1_fits_125 : decode cX1_fits 125 = .ok (.iinc 5 1, 3) := dk_132 5 1 (dk_at dksX1_fits_5 9 rfl rfl)
theorem dX1_fits_128 : decode cX1_fits 128 = .ok (.goto (-95), 3) := dk_167 255 161 (dk_at dksX1_fits_5 12 rfl rfl)
theorem dX1_fits_131 : decode cX1_fits 131 = .ok (.iload 4, 2) := dk_21 4 (dk_at dksX1_fits_5 15 rfl rfl)
theorem dX1_fits_133 : decode cX1_fits 133 = .ok (.ireturn, 1) := dk_172 (dk_at dksX1_fits_5 17 rfl rfl)
abbrev cX1_image : ByteArray := prog_1_method_56_code
def yX1_image : MethodName := ⟨RX1, "image", "(I)Z"⟩
def dkwX1_image_2 : List UInt8 := [83, 4, 172]
abbrev dktX1_image_2 : List UInt8 := dkwX1_image_2 ++ []
def dkwX1_image_1 : List UInt8 := [27, 50, 199, 0, 13, 187, 0, 36, 89, 183, 0, 38, 167, 0, 9, 42, 180, 0, 59, 27, 50, 182, 1, 41]
abbrev dktX1_image_1 : List UInt8 := dkwX1_image_1 ++ dktX1_image_2
def dkwX1_image_0 : List UInt8 := [27, 3, 5, 184, 0, 112, 154, 0, 5, 3, 172, 42, 180, 0, 59, 27, 42, 180, 0, 39, 42, 180, 0, 59]
abbrev dktX1_image_0 : List UInt8 := dkwX1_image_0 ++ dktX1_image_1
theorem dksX1_image_0 : cX1_image.data.toList.drop 0 = dktX1_image_0 := by decide +kernel
theorem dksX1_image_1 : cX1_image.data.toList.drop 24 = dktX1_image_1 := dk_seg dksX1_image_0 24 rfl rfl
theorem dksX1_image_2 : cX1_image.data.toList.drop 48 = dktX1_image_2 := dk_seg dksX1_image_1 24 rfl rfl
theorem dX1_image_0 : decode cX1_image 0 = .ok (.iload_n 1, 1) := dk_27 (dk_at dksX1_image_0 0 rfl rfl)
theorem dX1_image_1 : decode cX1_image 1 = .ok (.iconst 0, 1) := dk_3 (dk_at dksX1_image_0 1 rfl rfl)
theorem dX1_image_2 : decode cX1_image 2 = .ok (.iconst 2, 1) := dk_5 (dk_at dksX1_image_0 2 rfl rfl)
theorem dX1_image_3 : decode cX1_image 3 = .ok (.invokestatic 112, 3) := dk_184 0 112 (dk_at dksX1_image_0 3 rfl rfl)
theorem dX1_image_6 : decode cX1_image 6 = .ok (.ifCond .ne 5, 3) := dk_154 0 5 (dk_at dksX1_image_0 6 rfl rfl)
theorem dX1_image_9 : decode cX1_image 9 = .ok (.iconst 0, 1) := dk_3 (dk_at dksX1_image_0 9 rfl rfl)
theorem dX1_image_10 : decode cX1_image 10 = .ok (.ireturn, 1) := dk_172 (dk_at dksX1_image_0 10 rfl rfl)
theorem dX1_image_11 : decode cX1_image 11 = .ok (.aload_n 0, 1) := dk_42 (dk_at dksX1_image_0 11 rfl rfl)
theorem dX1_image_12 : decode cX1_image 12 = .ok (.getfield 59, 3) := dk_180 0 59 (dk_at dksX1_image_0 12 rfl rfl)
theorem dX1_image_15 : decode cX1_image 15 = .ok (.iload_n 1, 1) := dk_27 (dk_at dksX1_image_0 15 rfl rfl)
theorem dX1_image_16 : decode cX1_image 16 = .ok (.aload_n 0, 1) := dk_42 (dk_at dksX1_image_0 16 rfl rfl)
theorem dX1_image_17 : decode cX1_image 17 = .ok (.getfield 39, 3) := dk_180 0 39 (dk_at dksX1_image_0 17 rfl rfl)
theorem dX1_image_20 : decode cX1_image 20 = .ok (.aload_n 0, 1) := dk_42 (dk_at dksX1_image_0 20 rfl rfl)
theorem dX1_image_21 : decode cX1_image 21 = .ok (.getfield 59, 3) := dk_180 0 59 (dk_at dksX1_image_0 21 rfl rfl)
theorem dX1_image_24 : decode cX1_image 24 = .ok (.iload_n 1, 1) := dk_27 (dk_at dksX1_image_1 0 rfl rfl)
theorem dX1_image_25 : decode cX1_image 25 = .ok (.aaload, 1) := dk_50 (dk_at dksX1_image_1 1 rfl rfl)
theorem dX1_image_26 : decode cX1_image 26 = .ok (.ifnonnull 13, 3) := dk_199 0 13 (dk_at dksX1_image_1 2 rfl rfl)
theorem dX1_image_29 : decode cX1_image 29 = .ok (.new 36, 3) := dk_187 0 36 (dk_at dksX1_image_1 5 rfl rfl)
theorem dX1_image_32 : decode cX1_image 32 = .ok (.dup, 1) := dk_89 (dk_at dksX1_image_1 8 rfl rfl)
theorem dX1_image_33 : decode cX1_image 33 = .ok (.invokespecial 38, 3) := dk_183 0 38 (dk_at dksX1_image_1 9 rfl rfl)
theorem dX1_image_36 : decode cX1_image 36 = .ok (.goto 9, 3) := dk_167 0 9 (dk_at dksX1_image_1 12 rfl rfl)
theorem dX1_image_39 : decode cX1_image 39 = .ok (.aload_n 0, 1) := dk_42 (dk_at dksX1_image_1 15 rfl rfl)
theorem dX1_image_40 : decode cX1_image 40 = .ok (.getfield 59, 3) := dk_180 0 59 (dk_at dksX1_image_1 16 rfl rfl)
theorem dX1_image_43 : decode cX1_image 43 = .ok (.iload_n 1, 1) := dk_27 (dk_at dksX1_image_1 19 rfl rfl)
theorem dX1_image_44 : decode cX1_image 44 = .ok (.aaload, 1) := dk_50 (dk_at dksX1_image_1 20 rfl rfl)
theorem dX1_image_45 : decode cX1_image 45 = .ok (.invokevirtual 297, 3) := dk_182 1 41 (dk_at dksX1_image_1 21 rfl rfl)
theorem dX1_image_48 : decode cX1_image 48 = .ok (.aastore, 1) := dk_83 (dk_at dksX1_image_2 0 rfl rfl)
theorem dX1_image_49 : decode cX1_image 49 = .ok (.iconst 1, 1) := dk_4 (dk_at dksX1_image_2 1 rfl rfl)
theorem dX1_image_50 : decode cX1_image 50 = .ok (.ireturn, 1) := dk_172 (dk_at dksX1_image_2 2 rfl rfl)
abbrev cX1_restore : ByteArray := prog_1_method_57_code
def yX1_restore : MethodName := ⟨RX1, "restore", "(I)Z"⟩
def dkwX1_restore_1 : List UInt8 := [27, 50, 42, 180, 0, 39, 182, 1, 41, 87, 4, 172]
abbrev dktX1_restore_1 : List UInt8 := dkwX1_restore_1 ++ []
def dkwX1_restore_0 : List UInt8 := [27, 3, 5, 184, 0, 112, 153, 0, 12, 42, 180, 0, 59, 27, 50, 199, 0, 5, 3, 172, 42, 180, 0, 59]
abbrev dktX1_restore_0 : List UInt8 := dkwX1_restore_0 ++ dktX1_restore_1
theorem dksX1_restore_0 : cX1_restore.data.toList.drop 0 = dktX1_restore_0 := by decide +kernel
theorem dksX1_restore_1 : cX1_restore.data.toList.drop 24 = dktX1_restore_1 := dk_seg dksX1_restore_0 24 rfl rfl
theorem dX1_restore_0 : decode cX1_restore 0 = .ok (.iload_n 1, 1) := dk_27 (dk_at dksX1_restore_0 0 rfl rfl)
theorem dX1_restore_1 : decode cX1_restore 1 = .ok (.iconst 0, 1) := dk_3 (dk_at dksX1_restore_0 1 rfl rfl)
theorem dX1_restore_2 : decode cX1_restore 2 = .ok (.iconst 2, 1) := dk_5 (dk_at dksX1_restore_0 2 rfl rfl)
theorem dX1_restore_3 : decode cX1_restore 3 = .ok (.invokestatic 112, 3) := dk_184 0 112 (dk_at dksX1_restore_0 3 rfl rfl)
theorem dX1_restore_6 : decode cX1_restore 6 = .ok (.ifCond .eq 12, 3) := dk_153 0 12 (dk_at dksX1_restore_0 6 rfl rfl)
theorem dX1_restore_9 : decode cX1_restore 9 = .ok (.aload_n 0, 1) := dk_42 (dk_at dksX1_restore_0 9 rfl rfl)
theorem dX1_restore_10 : decode cX1_restore 10 = .ok (.getfield 59, 3) := dk_180 0 59 (dk_at dksX1_restore_0 10 rfl rfl)
theorem dX1_restore_13 : decode cX1_restore 13 = .ok (.iload_n 1, 1) := dk_27 (dk_at dksX1_restore_0 13 rfl rfl)
theorem dX1_restore_14 : decode cX1_restore 14 = .ok (.aaload, 1) := dk_50 (dk_at dksX1_restore_0 14 rfl rfl)
theorem dX1_restore_15 : decode cX1_restore 15 = .ok (.ifnonnull 5, 3) := dk_199 0 5 (dk_at dksX1_restore_0 15 rfl rfl)
theorem dX1_restore_18 : decode cX1_restore 18 = .ok (.iconst 0, 1) := dk_3 (dk_at dksX1_restore_0 18 rfl rfl)
theorem dX1_restore_19 : decode cX1_restore 19 = .ok (.ireturn, 1) := dk_172 (dk_at dksX1_restore_0 19 rfl rfl)
theorem dX1_restore_20 : decode cX1_restore 20 = .ok (.aload_n 0, 1) := dk_42 (dk_at dksX1_restore_0 20 rfl rfl)
theorem dX1_restore_21 : decode cX1_restore 21 = .ok (.getfield 59, 3) := dk_180 0 59 (dk_at dksX1_restore_0 21 rfl rfl)
theorem dX1_restore_24 : decode cX1_restore 24 = .ok (.iload_n 1, 1) := dk_27 (dk_at dksX1_restore_1 0 rfl rfl)
theorem dX1_restore_25 : decode cX1_restore 25 = .ok (.aaload, 1) := dk_50 (dk_at dksX1_restore_1 1 rfl rfl)
theorem dX1_restore_26 : decode cX1_restore 26 = .ok (.aload_n 0, 1) := dk_42 (dk_at dksX1_restore_1 2 rfl rfl)
theorem dX1_restore_27 : decode cX1_restore 27 = .ok (.getfield 39, 3) := dk_180 0 39 (dk_at dksX1_restore_1 3 rfl rfl)
theorem dX1_restore_30 : decode cX1_restore 30 = .ok (.invokevirtual 297, 3) := dk_182 1 41 (dk_at dksX1_restore_1 6 rfl rfl)
theorem dX1_restore_33 : decode cX1_restore 33 = .ok (.pop, 1) := dk_87 (dk_at dksX1_restore_1 9 rfl rfl)
theorem dX1_restore_34 : decode cX1_restore 34 = .ok (.iconst 1, 1) := dk_4 (dk_at dksX1_restore_1 10 rfl rfl)
theorem dX1_restore_35 : decode cX1_restore 35 = .ok (.ireturn, 1) := dk_172 (dk_at dksX1_restore_1 11 rfl rfl)
abbrev cX1_count : ByteArray := prog_1_method_58_code
def yX1_count : MethodName := ⟨RX1, "count", "(I)I"⟩
def dkwX1_count_7 : List UInt8 := [180, 1, 131, 172, 42, 180, 0, 102, 172, 2, 172]
abbrev dktX1_count_7 : List UInt8 := dkwX1_count_7 ++ []
def dkwX1_count_6 : List UInt8 := [180, 0, 207, 172, 42, 180, 0, 39, 180, 0, 210, 172, 42, 180, 0, 39, 180, 1, 128, 172, 42, 180, 0, 39]
abbrev dktX1_count_6 : List UInt8 := dkwX1_count_6 ++ dktX1_count_7
def dkwX1_count_5 : List UInt8 := [132, 3, 1, 167, 255, 212, 28, 172, 42, 180, 0, 39, 180, 1, 20, 182, 0, 3, 172, 42, 180, 0, 39]
abbrev dktX1_count_5 : List UInt8 := dkwX1_count_5 ++ dktX1_count_6
def dkwX1_count_4 : List UInt8 := [180, 0, 182, 29, 182, 0, 9, 192, 0, 191, 58, 4, 25, 4, 180, 0, 200, 154, 0, 6, 132, 2, 1]
abbrev dktX1_count_4 : List UInt8 := dkwX1_count_4 ++ dktX1_count_5
def dkwX1_count_3 : List UInt8 := [3, 61, 3, 62, 29, 42, 180, 0, 39, 180, 0, 182, 182, 0, 3, 162, 0, 36, 42, 180, 0, 39]
abbrev dktX1_count_3 : List UInt8 := dkwX1_count_3 ++ dktX1_count_4
def dkwX1_count_2 : List UInt8 := [42, 180, 0, 39, 180, 0, 120, 172, 42, 180, 0, 39, 180, 0, 123, 172, 42, 180, 0, 39, 180, 0, 136, 172]
abbrev dktX1_count_2 : List UInt8 := dkwX1_count_2 ++ dktX1_count_3
def dkwX1_count_1 : List UInt8 := [170, 0, 0, 0, 0, 0, 180, 0, 0, 0, 0, 0, 0, 0, 9, 0, 0, 0, 55, 0, 0, 0, 63, 0, 0, 0, 71, 0, 0, 0, 79, 0, 0, 0, 132, 0, 0, 0, 143, 0, 0, 0, 151, 0, 0, 0, 159, 0, 0, 0, 167, 0, 0, 0, 175]
abbrev dktX1_count_1 : List UInt8 := dkwX1_count_1 ++ dktX1_count_2
def dkwX1_count_0 : List UInt8 := [27]
abbrev dktX1_count_0 : List UInt8 := dkwX1_count_0 ++ dktX1_count_1
theorem dksX1_count_0 : cX1_count.data.toList.drop 0 = dktX1_count_0 := by decide +kernel
theorem dksX1_count_1 : cX1_count.data.toList.drop 1 = dktX1_count_1 := dk_seg dksX1_count_0 1 rfl rfl
theorem dksX1_count_2 : cX1_count.data.toList.drop 56 = dktX1_count_2 := dk_seg dksX1_count_1 55 rfl rfl
theorem dksX1_count_3 : cX1_count.data.toList.drop 80 = dktX1_count_3 := dk_seg dksX1_count_2 24 rfl rfl
theorem dksX1_count_4 : cX1_count.data.toList.drop 102 = dktX1_count_4 := dk_seg dksX1_count_3 22 rfl rfl
theorem dksX1_count_5 : cX1_count.data.toList.drop 125 = dktX1_count_5 := dk_seg dksX1_count_4 23 rfl rfl
theorem dksX1_count_6 : cX1_count.data.toList.drop 148 = dktX1_count_6 := dk_seg dksX1_count_5 23 rfl rfl
theorem dksX1_count_7 : cX1_count.data.toList.drop 172 = dktX1_count_7 := dk_seg dksX1_count_6 24 rfl rfl
theorem dX1_count_0 : decode cX1_count 0 = .ok (.iload_n 1, 1) := dk_27 (dk_at dksX1_count_0 0 rfl rfl)
theorem dX1_count_1 : decode cX1_count 1 = .ok (.tableswitch 180 0 9 #[55, 63, 71, 79, 132, 143, 151, 159, 167, 175], 55) := by decide +kernel
theorem dX1_count_56 : decode cX1_count 56 = .ok (.aload_n 0, 1) := dk_42 (dk_at dksX1_count_2 0 rfl rfl)
theorem dX1_count_57 : decode cX1_count 57 = .ok (.getfield 39, 3) := dk_180 0 39 (dk_at dksX1_count_2 1 rfl rfl)
theorem dX1_count_60 : decode cX1_count 60 = .ok (.getfield 120, 3) := dk_180 0 120 (dk_at dksX1_count_2 4 rfl rfl)
theorem dX1_count_63 : decode cX1_count 63 = .ok (.ireturn, 1) := dk_172 (dk_at dksX1_count_2 7 rfl rfl)
theorem dX1_count_64 : decode cX1_count 64 = .ok (.aload_n 0, 1) := dk_42 (dk_at dksX1_count_2 8 rfl rfl)
theorem dX1_count_65 : decode cX1_count 65 = .ok (.getfield 39, 3) := dk_180 0 39 (dk_at dksX1_count_2 9 rfl rfl)
theorem dX1_count_68 : decode cX1_count 68 = .ok (.getfield 123, 3) := dk_180 0 123 (dk_at dksX1_count_2 12 rfl rfl)
theorem dX1_count_71 : decode cX1_count 71 = .ok (.ireturn, 1) := dk_172 (dk_at dksX1_count_2 15 rfl rfl)
theorem dX1_count_72 : decode cX1_count 72 = .ok (.aload_n 0, 1) := dk_42 (dk_at dksX1_count_2 16 rfl rfl)
theorem dX1_count_73 : decode cX1_count 73 = .ok (.getfield 39, 3) := dk_180 0 39 (dk_at dksX1_count_2 17 rfl rfl)
theorem dX1_count_76 : decode cX1_count 76 = .ok (.getfield 136, 3) := dk_180 0 136 (dk_at dksX1_count_2 20 rfl rfl)
theorem dX1_count_79 : decode cX1_count 79 = .ok (.ireturn, 1) := dk_172 (dk_at dksX1_count_2 23 rfl rfl)
theorem dX1_count_80 : decode cX1_count 80 = .ok (.iconst 0, 1) := dk_3 (dk_at dksX1_count_3 0 rfl rfl)
theorem dX1_count_81 : decode cX1_count 81 = .ok (.istore_n 2, 1) := dk_61 (dk_at dksX1_count_3 1 rfl rfl)
theorem dX1_count_82 : decode cX1_count 82 = .ok (.iconst 0, 1) := dk_3 (dk_at dksX1_count_3 2 rfl rfl)
theorem dX1_count_83 : decode cX1_count 83 = .ok (.istore_n 3, 1) := dk_62 (dk_at dksX1_count_3 3 rfl rfl)
theorem dX1_count_84 : decode cX1_count 84 = .ok (.iload_n 3, 1) := dk_29 (dk_at dksX1_count_3 4 rfl rfl)
theorem dX1_count_85 : decode cX1_count 85 = .ok (.aload_n 0, 1) := dk_42 (dk_at dksX1_count_3 5 rfl rfl)
theorem dX1_count_86 : decode cX1_count 86 = .ok (.getfield 39, 3) := dk_180 0 39 (dk_at dksX1_count_3 6 rfl rfl)
theorem dX1_count_89 : decode cX1_count 89 = .ok (.getfield 182, 3) := dk_180 0 182 (dk_at dksX1_count_3 9 rfl rfl)
theorem dX1_count_92 : decode cX1_count 92 = .ok (.invokevirtual 3, 3) := dk_182 0 3 (dk_at dksX1_count_3 12 rfl rfl)
theorem dX1_count_95 : decode cX1_count 95 = .ok (.if_icmp .ge 36, 3) := dk_162 0 36 (dk_at dksX1_count_3 15 rfl rfl)
theorem dX1_count_98 : decode cX1_count 98 = .ok (.aload_n 0, 1) := dk_42 (dk_at dksX1_count_3 18 rfl rfl)
theorem dX1_count_99 : decode cX1_count 99 = .ok (.getfield 39, 3) := dk_180 0 39 (dk_at dksX1_count_3 19 rfl rfl)
theorem dX1_count_102 : decode cX1_count 102 = .ok (.getfield 182, 3) := dk_180 0 182 (dk_at dksX1_count_4 0 rfl rfl)
theorem dX1_count_105 : decode cX1_count 105 = .ok (.iload_n 3, 1) := dk_29 (dk_at dksX1_count_4 3 rfl rfl)
theorem dX1_count_106 : decode cX1_count 106 = .ok (.invokevirtual 9, 3) := dk_182 0 9 (dk_at dksX1_count_4 4 rfl rfl)
theorem dX1_count_109 : decode cX1_count 109 = .ok (.checkcast 191, 3) := dk_192 0 191 (dk_at dksX1_count_4 7 rfl rfl)
theorem dX1_count_112 : decode cX1_count 112 = .ok (.astore 4, 2) := dk_58 4 (dk_at dksX1_count_4 10 rfl rfl)
theorem dX1_count_114 : decode cX1_count 114 = .ok (.aload 4, 2) := dk_25 4 (dk_at dksX1_count_4 12 rfl rfl)
theorem dX1_count_116 : decode cX1_count 116 = .ok (.getfield 200, 3) := dk_180 0 200 (dk_at dksX1_count_4 14 rfl rfl)
theorem dX1_count_119 : decode cX1_count 119 = .ok (.ifCond .ne 6, 3) := dk_154 0 6 (dk_at dksX1_count_4 17 rfl rfl)
theorem dX1_count_122 : decode cX1_count 122 = .ok (.iinc 2 1, 3) := dk_132 2 1 (dk_at dksX1_count_4 20 rfl rfl)
theorem dX1_count_125 : decode cX1_count 125 = .ok (.iinc 3 1, 3) := dk_132 3 1 (dk_at dksX1_count_5 0 rfl rfl)
theorem dX1_count_128 : decode cX1_count 128 = .ok (.goto (-44), 3) := dk_167 255 212 (dk_at dksX1_count_5 3 rfl rfl)
theorem dX1_count_131 : decode cX1_count 131 = .ok (.iload_n 2, 1) := dk_28 (dk_at dksX1_count_5 6 rfl rfl)
theorem dX1_count_132 : decode cX1_count 132 = .ok (.ireturn, 1) := dk_172 (dk_at dksX1_count_5 7 rfl rfl)
theorem dX1_count_133 : decode cX1_count 133 = .ok (.aload_n 0, 1) := dk_42 (dk_at dksX1_count_5 8 rfl rfl)
theorem dX1_count_134 : decode cX1_count 134 = .ok (.getfield 39, 3) := dk_180 0 39 (dk_at dksX1_count_5 9 rfl rfl)
theorem dX1_count_137 : decode cX1_count 137 = .ok (.getfield 276, 3) := dk_180 1 20 (dk_at dksX1_count_5 12 rfl rfl)
theorem dX1_count_140 : decode cX1_count 140 = .ok (.invokevirtual 3, 3) := dk_182 0 3 (dk_at dksX1_count_5 15 rfl rfl)
theorem dX1_count_143 : decode cX1_count 143 = .ok (.ireturn, 1) := dk_172 (dk_at dksX1_count_5 18 rfl rfl)
theorem dX1_count_144 : decode cX1_count 144 = .ok (.aload_n 0, 1) := dk_42 (dk_at dksX1_count_5 19 rfl rfl)
theorem dX1_count_145 : decode cX1_count 145 = .ok (.getfield 39, 3) := dk_180 0 39 (dk_at dksX1_count_5 20 rfl rfl)
theorem dX1_count_148 : decode cX1_count 148 = .ok (.getfield 207, 3) := dk_180 0 207 (dk_at dksX1_count_6 0 rfl rfl)
theorem dX1_count_151 : decode cX1_count 151 = .ok (.ireturn, 1) := dk_172 (dk_at dksX1_count_6 3 rfl rfl)
theorem dX1_count_152 : decode cX1_count 152 = .ok (.aload_n 0, 1) := dk_42 (dk_at dksX1_count_6 4 rfl rfl)
theorem dX1_count_153 : decode cX1_count 153 = .ok (.getfield 39, 3) := dk_180 0 39 (dk_at dksX1_count_6 5 rfl rfl)
theorem dX1_count_156 : decode cX1_count 156 = .ok (.getfield 210, 3) := dk_180 0 210 (dk_at dksX1_count_6 8 rfl rfl)
theorem dX1_count_159 : decode cX1_count 159 = .ok (.ireturn, 1) := dk_172 (dk_at dksX1_count_6 11 rfl rfl)
theorem dX1_count_160 : decode cX1_count 160 = .ok (.aload_n 0, 1) := dk_42 (dk_at dksX1_count_6 12 rfl rfl)
theorem dX1_count_161 : decode cX1_count 161 = .ok (.getfield 39, 3) := dk_180 0 39 (dk_at dksX1_count_6 13 rfl rfl)
theorem dX1_count_164 : decode cX1_count 164 = .ok (.getfield 384, 3) := dk_180 1 128 (dk_at dksX1_count_6 16 rfl rfl)
theorem dX1_count_167 : decode cX1_count 167 = .ok (.ireturn, 1) := dk_172 (dk_at dksX1_count_6 19 rfl rfl)
theorem dX1_count_168 : decode cX1_count 168 = .ok (.aload_n 0, 1) := dk_42 (dk_at dksX1_count_6 20 rfl rfl)
theorem dX1_count_169 : decode cX1_count 169 = .ok (.getfield 39, 3) := dk_180 0 39 (dk_at dksX1_count_6 21 rfl rfl)
theorem dX1_count_172 : decode cX1_count 172 = .ok (.getfield 387, 3) := dk_180 1 131 (dk_at dksX1_count_7 0 rfl rfl)
theorem dX1_count_175 : decode cX1_count 175 = .ok (.ireturn, 1) := dk_172 (dk_at dksX1_count_7 3 rfl rfl)
theorem dX1_count_176 : decode cX1_count 176 = .ok (.aload_n 0, 1) := dk_42 (dk_at dksX1_count_7 4 rfl rfl)
theorem dX1_count_177 : decode cX1_count 177 = .ok (.getfield 102, 3) := dk_180 0 102 (dk_at dksX1_count_7 5 rfl rfl)
theorem dX1_count_180 : decode cX1_count 180 = .ok (.ireturn, 1) := dk_172 (dk_at dksX1_count_7 8 rfl rfl)
theorem dX1_count_181 : decode cX1_count 181 = .ok (.iconst (-1), 1) := dk_2 (dk_at dksX1_count_7 9 rfl rfl)
theorem dX1_count_182 : decode cX1_count 182 = .ok (.ireturn, 1) := dk_172 (dk_at dksX1_count_7 10 rfl rfl)
abbrev cX1_cell : ByteArray := prog_1_method_26_code
def yX1_cell : MethodName := ⟨RX1, "cell", "(II)I"⟩
def dkwX1_cell_6 : List UInt8 := [167, 0, 4, 3, 172, 45, 42, 180, 0, 49, 27, 182, 1, 17, 153, 0, 7, 4, 167, 0, 4, 3, 172]
abbrev dktX1_cell_6 : List UInt8 := dkwX1_cell_6 ++ []
def dkwX1_cell_5 : List UInt8 := [27, 46, 172, 45, 180, 0, 240, 27, 46, 172, 45, 42, 180, 0, 49, 27, 182, 1, 13, 153, 0, 7, 4]
abbrev dktX1_cell_5 : List UInt8 := dkwX1_cell_5 ++ dktX1_cell_6
def dkwX1_cell_4 : List UInt8 := [180, 0, 133, 27, 46, 172, 45, 180, 1, 7, 27, 46, 172, 45, 180, 0, 231, 27, 46, 172, 45, 180, 1, 10]
abbrev dktX1_cell_4 : List UInt8 := dkwX1_cell_4 ++ dktX1_cell_5
def dkwX1_cell_3 : List UInt8 := [45, 180, 0, 126, 27, 46, 172, 45, 180, 0, 129, 27, 51, 153, 0, 7, 4, 167, 0, 4, 3, 172, 45]
abbrev dktX1_cell_3 : List UInt8 := dkwX1_cell_3 ++ dktX1_cell_4
def dkwX1_cell_2 : List UInt8 := [170, 0, 0, 0, 0, 0, 0, 123, 0, 0, 0, 0, 0, 0, 0, 7, 0, 0, 0, 48, 0, 0, 0, 55, 0, 0, 0, 70, 0, 0, 0, 77, 0, 0, 0, 84, 0, 0, 0, 91, 0, 0, 0, 98, 0, 0, 0, 105]
abbrev dktX1_cell_2 : List UInt8 := dkwX1_cell_2 ++ dktX1_cell_3
def dkwX1_cell_1 : List UInt8 := [167, 0, 4, 3, 184, 1, 3, 28]
abbrev dktX1_cell_1 : List UInt8 := dkwX1_cell_1 ++ dktX1_cell_2
def dkwX1_cell_0 : List UInt8 := [42, 180, 0, 39, 78, 45, 27, 182, 0, 139, 153, 0, 17, 28, 3, 16, 8, 184, 0, 112, 153, 0, 7, 4]
abbrev dktX1_cell_0 : List UInt8 := dkwX1_cell_0 ++ dktX1_cell_1
theorem dksX1_cell_0 : cX1_cell.data.toList.drop 0 = dktX1_cell_0 := by decide +kernel
theorem dksX1_cell_1 : cX1_cell.data.toList.drop 24 = dktX1_cell_1 := dk_seg dksX1_cell_0 24 rfl rfl
theorem dksX1_cell_2 : cX1_cell.data.toList.drop 32 = dktX1_cell_2 := dk_seg dksX1_cell_1 8 rfl rfl
theorem dksX1_cell_3 : cX1_cell.data.toList.drop 80 = dktX1_cell_3 := dk_seg dksX1_cell_2 48 rfl rfl
theorem dksX1_cell_4 : cX1_cell.data.toList.drop 103 = dktX1_cell_4 := dk_seg dksX1_cell_3 23 rfl rfl
theorem dksX1_cell_5 : cX1_cell.data.toList.drop 127 = dktX1_cell_5 := dk_seg dksX1_cell_4 24 rfl rfl
theorem dksX1_cell_6 : cX1_cell.data.toList.drop 150 = dktX1_cell_6 := dk_seg dksX1_cell_5 23 rfl rfl
theorem dX1_cell_0 : decode cX1_cell 0 = .ok (.aload_n 0, 1) := dk_42 (dk_at dksX1_cell_0 0 rfl rfl)
theorem dX1_cell_1 : decode cX1_cell 1 = .ok (.getfield 39, 3) := dk_180 0 39 (dk_at dksX1_cell_0 1 rfl rfl)
theorem dX1_cell_4 : decode cX1_cell 4 = .ok (.astore_n 3, 1) := dk_78 (dk_at dksX1_cell_0 4 rfl rfl)
theorem dX1_cell_5 : decode cX1_cell 5 = .ok (.aload_n 3, 1) := dk_45 (dk_at dksX1_cell_0 5 rfl rfl)
theorem dX1_cell_6 : decode cX1_cell 6 = .ok (.iload_n 1, 1) := dk_27 (dk_at dksX1_cell_0 6 rfl rfl)
theorem dX1_cell_7 : decode cX1_cell 7 = .ok (.invokevirtual 139, 3) := dk_182 0 139 (dk_at dksX1_cell_0 7 rfl rfl)
theorem dX1_cell_10 : decode cX1_cell 10 = .ok (.ifCond .eq 17, 3) := dk_153 0 17 (dk_at dksX1_cell_0 10 rfl rfl)
theorem dX1_cell_13 : decode cX1_cell 13 = .ok (.iload_n 2, 1) := dk_28 (dk_at dksX1_cell_0 13 rfl rfl)
theorem dX1_cell_14 : decode cX1_cell 14 = .ok (.iconst 0, 1) := dk_3 (dk_at dksX1_cell_0 14 rfl rfl)
theorem dX1_cell_15 : decode cX1_cell 15 = .ok (.bipush 8, 2) := dk_16 8 (dk_at dksX1_cell_0 15 rfl rfl)
theorem dX1_cell_17 : decode cX1_cell 17 = .ok (.invokestatic 112, 3) := dk_184 0 112 (dk_at dksX1_cell_0 17 rfl rfl)
theorem dX1_cell_20 : decode cX1_cell 20 = .ok (.ifCond .eq 7, 3) := dk_153 0 7 (dk_at dksX1_cell_0 20 rfl rfl)
theorem dX1_cell_23 : decode cX1_cell 23 = .ok (.iconst 1, 1) := dk_4 (dk_at dksX1_cell_0 23 rfl rfl)
theorem dX1_cell_24 : decode cX1_cell 24 = .ok (.goto 4, 3) := dk_167 0 4 (dk_at dksX1_cell_1 0 rfl rfl)
theorem dX1_cell_27 : decode cX1_cell 27 = .ok (.iconst 0, 1) := dk_3 (dk_at dksX1_cell_1 3 rfl rfl)
theorem dX1_cell_28 : decode cX1_cell 28 = .ok (.invokestatic 259, 3) := dk_184 1 3 (dk_at dksX1_cell_1 4 rfl rfl)
theorem dX1_cell_31 : decode cX1_cell 31 = .ok (.iload_n 2, 1) := dk_28 (dk_at dksX1_cell_1 7 rfl rfl)
theorem dX1_cell_32 : decode cX1_cell 32 = .ok (.tableswitch 123 0 7 #[48, 55, 70, 77, 84, 91, 98, 105], 48) := by decide +kernel
theorem dX1_cell_80 : decode cX1_cell 80 = .ok (.aload_n 3, 1) := dk_45 (dk_at dksX1_cell_3 0 rfl rfl)
theorem dX1_cell_81 : decode cX1_cell 81 = .ok (.getfield 126, 3) := dk_180 0 126 (dk_at dksX1_cell_3 1 rfl rfl)
theorem dX1_cell_84 : decode cX1_cell 84 = .ok (.iload_n 1, 1) := dk_27 (dk_at dksX1_cell_3 4 rfl rfl)
theorem dX1_cell_85 : decode cX1_cell 85 = .ok (.iaload, 1) := dk_46 (dk_at dksX1_cell_3 5 rfl rfl)
theorem dX1_cell_86 : decode cX1_cell 86 = .ok (.ireturn, 1) := dk_172 (dk_at dksX1_cell_3 6 rfl rfl)
theorem dX1_cell_87 : decode cX1_cell 87 = .ok (.aload_n 3, 1) := dk_45 (dk_at dksX1_cell_3 7 rfl rfl)
theorem dX1_cell_88 : decode cX1_cell 88 = .ok (.getfield 129, 3) := dk_180 0 129 (dk_at dksX1_cell_3 8 rfl rfl)
theorem dX1_cell_91 : decode cX1_cell 91 = .ok (.iload_n 1, 1) := dk_27 (dk_at dksX1_cell_3 11 rfl rfl)
theorem dX1_cell_92 : decode cX1_cell 92 = .ok (.baload, 1) := dk_51 (dk_at dksX1_cell_3 12 rfl rfl)
theorem dX1_cell_93 : decode cX1_cell 93 = .ok (.ifCond .eq 7, 3) := dk_153 0 7 (dk_at dksX1_cell_3 13 rfl rfl)
theorem dX1_cell_96 : decode cX1_cell 96 = .ok (.iconst 1, 1) := dk_4 (dk_at dksX1_cell_3 16 rfl rfl)
theorem dX1_cell_97 : decode cX1_cell 97 = .ok (.goto 4, 3) := dk_167 0 4 (dk_at dksX1_cell_3 17 rfl rfl)
theorem dX1_cell_100 : decode cX1_cell 100 = .ok (.iconst 0, 1) := dk_3 (dk_at dksX1_cell_3 20 rfl rfl)
theorem dX1_cell_101 : decode cX1_cell 101 = .ok (.ireturn, 1) := dk_172 (dk_at dksX1_cell_3 21 rfl rfl)
theorem dX1_cell_102 : decode cX1_cell 102 = .ok (.aload_n 3, 1) := dk_45 (dk_at dksX1_cell_3 22 rfl rfl)
theorem dX1_cell_103 : decode cX1_cell 103 = .ok (.getfield 133, 3) := dk_180 0 133 (dk_at dksX1_cell_4 0 rfl rfl)
theorem dX1_cell_106 : decode cX1_cell 106 = .ok (.iload_n 1, 1) := dk_27 (dk_at dksX1_cell_4 3 rfl rfl)
theorem dX1_cell_107 : decode cX1_cell 107 = .ok (.iaload, 1) := dk_46 (dk_at dksX1_cell_4 4 rfl rfl)
theorem dX1_cell_108 : decode cX1_cell 108 = .ok (.ireturn, 1) := dk_172 (dk_at dksX1_cell_4 5 rfl rfl)
theorem dX1_cell_109 : decode cX1_cell 109 = .ok (.aload_n 3, 1) := dk_45 (dk_at dksX1_cell_4 6 rfl rfl)
theorem dX1_cell_110 : decode cX1_cell 110 = .ok (.getfield 263, 3) := dk_180 1 7 (dk_at dksX1_cell_4 7 rfl rfl)
theorem dX1_cell_113 : decode cX1_cell 113 = .ok (.iload_n 1, 1) := dk_27 (dk_at dksX1_cell_4 10 rfl rfl)
theorem dX1_cell_114 : decode cX1_cell 114 = .ok (.iaload, 1) := dk_46 (dk_at dksX1_cell_4 11 rfl rfl)
theorem dX1_cell_115 : decode cX1_cell 115 = .ok (.ireturn, 1) := dk_172 (dk_at dksX1_cell_4 12 rfl rfl)
theorem dX1_cell_116 : decode cX1_cell 116 = .ok (.aload_n 3, 1) := dk_45 (dk_at dksX1_cell_4 13 rfl rfl)
theorem dX1_cell_117 : decode cX1_cell 117 = .ok (.getfield 231, 3) := dk_180 0 231 (dk_at dksX1_cell_4 14 rfl rfl)
theorem dX1_cell_120 : decode cX1_cell 120 = .ok (.iload_n 1, 1) := dk_27 (dk_at dksX1_cell_4 17 rfl rfl)
theorem dX1_cell_121 : decode cX1_cell 121 = .ok (.iaload, 1) := dk_46 (dk_at dksX1_cell_4 18 rfl rfl)
theorem dX1_cell_122 : decode cX1_cell 122 = .ok (.ireturn, 1) := dk_172 (dk_at dksX1_cell_4 19 rfl rfl)
theorem dX1_cell_123 : decode cX1_cell 123 = .ok (.aload_n 3, 1) := dk_45 (dk_at dksX1_cell_4 20 rfl rfl)
theorem dX1_cell_124 : decode cX1_cell 124 = .ok (.getfield 266, 3) := dk_180 1 10 (dk_at dksX1_cell_4 21 rfl rfl)
theorem dX1_cell_127 : decode cX1_cell 127 = .ok (.iload_n 1, 1) := dk_27 (dk_at dksX1_cell_5 0 rfl rfl)
theorem dX1_cell_128 : decode cX1_cell 128 = .ok (.iaload, 1) := dk_46 (dk_at dksX1_cell_5 1 rfl rfl)
theorem dX1_cell_129 : decode cX1_cell 129 = .ok (.ireturn, 1) := dk_172 (dk_at dksX1_cell_5 2 rfl rfl)
theorem dX1_cell_130 : decode cX1_cell 130 = .ok (.aload_n 3, 1) := dk_45 (dk_at dksX1_cell_5 3 rfl rfl)
theorem dX1_cell_131 : decode cX1_cell 131 = .ok (.getfield 240, 3) := dk_180 0 240 (dk_at dksX1_cell_5 4 rfl rfl)
theorem dX1_cell_134 : decode cX1_cell 134 = .ok (.iload_n 1, 1) := dk_27 (dk_at dksX1_cell_5 7 rfl rfl)
theorem dX1_cell_135 : decode cX1_cell 135 = .ok (.iaload, 1) := dk_46 (dk_at dksX1_cell_5 8 rfl rfl)
theorem dX1_cell_136 : decode cX1_cell 136 = .ok (.ireturn, 1) := dk_172 (dk_at dksX1_cell_5 9 rfl rfl)
theorem dX1_cell_137 : decode cX1_cell 137 = .ok (.aload_n 3, 1) := dk_45 (dk_at dksX1_cell_5 10 rfl rfl)
theorem dX1_cell_138 : decode cX1_cell 138 = .ok (.aload_n 0, 1) := dk_42 (dk_at dksX1_cell_5 11 rfl rfl)
theorem dX1_cell_139 : decode cX1_cell 139 = .ok (.getfield 49, 3) := dk_180 0 49 (dk_at dksX1_cell_5 12 rfl rfl)
theorem dX1_cell_142 : decode cX1_cell 142 = .ok (.iload_n 1, 1) := dk_27 (dk_at dksX1_cell_5 15 rfl rfl)
theorem dX1_cell_143 : decode cX1_cell 143 = .ok (.invokevirtual 269, 3) := dk_182 1 13 (dk_at dksX1_cell_5 16 rfl rfl)
theorem dX1_cell_146 : decode cX1_cell 146 = .ok (.ifCond .eq 7, 3) := dk_153 0 7 (dk_at dksX1_cell_5 19 rfl rfl)
theorem dX1_cell_149 : decode cX1_cell 149 = .ok (.iconst 1, 1) := dk_4 (dk_at dksX1_cell_5 22 rfl rfl)
theorem dX1_cell_150 : decode cX1_cell 150 = .ok (.goto 4, 3) := dk_167 0 4 (dk_at dksX1_cell_6 0 rfl rfl)
theorem dX1_cell_153 : decode cX1_cell 153 = .ok (.iconst 0, 1) := dk_3 (dk_at dksX1_cell_6 3 rfl rfl)
theorem dX1_cell_154 : decode cX1_cell 154 = .ok (.ireturn, 1) := dk_172 (dk_at dksX1_cell_6 4 rfl rfl)
theorem dX1_cell_155 : decode cX1_cell 155 = .ok (.aload_n 3, 1) := dk_45 (dk_at dksX1_cell_6 5 rfl rfl)
theorem dX1_cell_156 : decode cX1_cell 156 = .ok (.aload_n 0, 1) := dk_42 (dk_at dksX1_cell_6 6 rfl rfl)
theorem dX1_cell_157 : decode cX1_cell 157 = .ok (.getfield 49, 3) := dk_180 0 49 (dk_at dksX1_cell_6 7 rfl rfl)
theorem dX1_cell_160 : decode cX1_cell 160 = .ok (.iload_n 1, 1) := dk_27 (dk_at dksX1_cell_6 10 rfl rfl)
theorem dX1_cell_161 : decode cX1_cell 161 = .ok (.invokevirtual 273, 3) := dk_182 1 17 (dk_at dksX1_cell_6 11 rfl rfl)
theorem dX1_cell_164 : decode cX1_cell 164 = .ok (.ifCond .eq 7, 3) := dk_153 0 7 (dk_at dksX1_cell_6 14 rfl rfl)
theorem dX1_cell_167 : decode cX1_cell 167 = .ok (.iconst 1, 1) := dk_4 (dk_at dksX1_cell_6 17 rfl rfl)
theorem dX1_cell_168 : decode cX1_cell 168 = .ok (.goto 4, 3) := dk_167 0 4 (dk_at dksX1_cell_6 18 rfl rfl)
theorem dX1_cell_171 : decode cX1_cell 171 = .ok (.iconst 0, 1) := dk_3 (dk_at dksX1_cell_6 21 rfl rfl)
theorem dX1_cell_172 : decode cX1_cell 172 = .ok (.ireturn, 1) := dk_172 (dk_at dksX1_cell_6 22 rfl rfl)
abbrev cX1_need : ByteArray := prog_1_method_25_code
def yX1_need : MethodName := ⟨RX1, "need", "(Z)V"⟩
def dkwX1_need_0 : List UInt8 := [26, 154, 0, 11, 187, 1, 0, 89, 183, 1, 2, 191, 177]
abbrev dktX1_need_0 : List UInt8 := dkwX1_need_0 ++ []
theorem dksX1_need_0 : cX1_need.data.toList.drop 0 = dktX1_need_0 := by decide +kernel
theorem dX1_need_0 : decode cX1_need 0 = .ok (.iload_n 0, 1) := dk_26 (dk_at dksX1_need_0 0 rfl rfl)
theorem dX1_need_1 : decode cX1_need 1 = .ok (.ifCond .ne 11, 3) := dk_154 0 11 (dk_at dksX1_need_0 1 rfl rfl)
theorem dX1_need_4 : decode cX1_need 4 = .ok (.new 256, 3) := dk_187 1 0 (dk_at dksX1_need_0 4 rfl rfl)
theorem dX1_need_7 : decode cX1_need 7 = .ok (.dup, 1) := dk_89 (dk_at dksX1_need_0 7 rfl rfl)
theorem dX1_need_8 : decode cX1_need 8 = .ok (.invokespecial 258, 3) := dk_183 1 2 (dk_at dksX1_need_0 8 rfl rfl)
theorem dX1_need_11 : decode cX1_need 11 = .ok (.athrow, 1) := dk_191 (dk_at dksX1_need_0 11 rfl rfl)
theorem dX1_need_12 : decode cX1_need 12 = .ok (.return_, 1) := dk_177 (dk_at dksX1_need_0 12 rfl rfl)
theorem q117 : (Jvm.Cond.initialized "GrassPark") ∈ lw_all := lw_g (lw_at lw_m1 1 rfl) rfl
theorem q154 : (Jvm.Cond.instantiable "GrassPark" (23 : Nat)) ∈ lw_all := lw_g (lw_at lw_m1 38 rfl) rfl
theorem q156 : (Jvm.Cond.instanceMethod ({ cls := "GrassPark", name := "<init>", desc := "()V" } : Jvm.MethodName)) ∈ lw_all := lw_g (lw_at lw_m1 40 rfl) rfl
theorem q157 : (Jvm.Cond.code ({ cls := "GrassPark", name := "<init>", desc := "()V" } : Jvm.MethodName) prog_1_method_3_code (2 : Nat) (Option.none : Option Jvm.ClassFile.FieldType)) ∈ lw_all := lw_g (lw_at lw_m1 41 rfl) rfl
theorem q158 : (Jvm.Cond.methodLink "GrassPark" (26 : Nat) ({ cls := "java/lang/Object", name := "<init>", desc := "()V" } : Jvm.MethodName)) ∈ lw_all := lw_g (lw_at lw_m1 42 rfl) rfl
theorem q161 : (Jvm.Cond.classLink "GrassPark" (36 : Nat) "GrassPark$Ground") ∈ lw_all := lw_g (lw_at lw_m1 45 rfl) rfl
theorem q163 : (Jvm.Cond.methodLinkNest "GrassPark" (38 : Nat) ({ cls := "GrassPark$Ground", name := "<init>", desc := "()V" } : Jvm.MethodName) "GrassPark") ∈ lw_tbl := lw_at lw_m1 47 rfl
theorem q197 : (Jvm.Cond.fieldLinkNest "GrassPark" (120 : Nat) "GrassPark$Ground" "w" "I" "GrassPark") ∈ lw_tbl := lw_at lw_m1 81 rfl
theorem q199 : (Jvm.Cond.fieldLinkNest "GrassPark" (123 : Nat) "GrassPark$Ground" "h" "I" "GrassPark") ∈ lw_tbl := lw_at lw_m1 83 rfl
theorem q201 : (Jvm.Cond.fieldLinkNest "GrassPark" (207 : Nat) "GrassPark$Ground" "tick" "I" "GrassPark") ∈ lw_tbl := lw_at lw_m1 85 rfl
theorem q203 : (Jvm.Cond.fieldLinkNest "GrassPark" (210 : Nat) "GrassPark$Ground" "arrived" "I" "GrassPark") ∈ lw_tbl := lw_at lw_m1 87 rfl
theorem q205 : (Jvm.Cond.fieldLinkNest "GrassPark" (384 : Nat) "GrassPark$Ground" "lost" "I" "GrassPark") ∈ lw_tbl := lw_at lw_m1 89 rfl
theorem q207 : (Jvm.Cond.fieldLinkNest "GrassPark" (387 : Nat) "GrassPark$Ground" "turned" "I" "GrassPark") ∈ lw_tbl := lw_at lw_m1 91 rfl
theorem q210 : (Jvm.Cond.fieldLinkNest "GrassPark" (126 : Nat) "GrassPark$Ground" "kind" "[I" "GrassPark") ∈ lw_tbl := lw_at lw_m1 94 rfl
theorem q213 : (Jvm.Cond.fieldLinkNest "GrassPark" (133 : Nat) "GrassPark$Ground" "height" "[I" "GrassPark") ∈ lw_tbl := lw_at lw_m1 97 rfl
theorem q216 : (Jvm.Cond.fieldLinkNest "GrassPark" (263 : Nat) "GrassPark$Ground" "wear" "[I" "GrassPark") ∈ lw_tbl := lw_at lw_m1 100 rfl
theorem q219 : (Jvm.Cond.fieldLinkNest "GrassPark" (231 : Nat) "GrassPark$Ground" "wet" "[I" "GrassPark") ∈ lw_tbl := lw_at lw_m1 103 rfl
theorem q222 : (Jvm.Cond.fieldLinkNest "GrassPark" (266 : Nat) "GrassPark$Ground" "trod" "[I" "GrassPark") ∈ lw_tbl := lw_at lw_m1 106 rfl
theorem q224 : (Jvm.Cond.fieldLinkNest "GrassPark" (240 : Nat) "GrassPark$Ground" "snow" "[I" "GrassPark") ∈ lw_tbl := lw_at lw_m1 108 rfl
theorem q226 : (Jvm.Cond.fieldLinkNest "GrassPark" (149 : Nat) "GrassPark$Ground" "doors" "[I" "GrassPark") ∈ lw_tbl := lw_at lw_m1 110 rfl
theorem q229 : (Jvm.Cond.fieldLinkNest "GrassPark" (129 : Nat) "GrassPark$Ground" "sign" "[Z" "GrassPark") ∈ lw_tbl := lw_at lw_m1 113 rfl
theorem q231 : (Jvm.Cond.fieldLinkNest "GrassPark" (136 : Nat) "GrassPark$Ground" "doorMany" "I" "GrassPark") ∈ lw_tbl := lw_at lw_m1 115 rfl
theorem q233 : (Jvm.Cond.fieldLinkNest "GrassPark" (182 : Nat) "GrassPark$Ground" "wishes" "Ljava/util/ArrayList;" "GrassPark") ∈ lw_tbl := lw_at lw_m1 117 rfl
theorem q235 : (Jvm.Cond.fieldLinkNest "GrassPark" (276 : Nat) "GrassPark$Ground" "walkers" "Ljava/util/ArrayList;" "GrassPark") ∈ lw_tbl := lw_at lw_m1 119 rfl
theorem q274 : (Jvm.Cond.classLink "GrassPark" (46 : Nat) "GrassPark$Law") ∈ lw_all := lw_g (lw_at lw_m1 158 rfl) rfl
theorem q276 : (Jvm.Cond.methodLinkNest "GrassPark" (48 : Nat) ({ cls := "GrassPark$Law", name := "<init>", desc := "()V" } : Jvm.MethodName) "GrassPark") ∈ lw_tbl := lw_at lw_m1 160 rfl
theorem q302 : (Jvm.Cond.classLink "GrassPark" (53 : Nat) "GrassPark$Habit") ∈ lw_all := lw_g (lw_at lw_m1 186 rfl) rfl
theorem q305 : (Jvm.Cond.classLink "GrassPark" (63 : Nat) "[[I") ∈ lw_all := lw_g (lw_at lw_m1 189 rfl) rfl
theorem q307 : (Jvm.Cond.classLink "GrassPark" (68 : Nat) "[[Z") ∈ lw_all := lw_g (lw_at lw_m1 191 rfl) rfl
theorem q310 : (Jvm.Cond.methodLinkNest "GrassPark" (101 : Nat) ({ cls := "GrassPark$Habit", name := "<init>", desc := "()V" } : Jvm.MethodName) "GrassPark") ∈ lw_tbl := lw_at lw_m1 194 rfl
theorem q327 : (Jvm.Cond.fieldLink "GrassPark" (32 : Nat) "GrassPark" "tape" "[B") ∈ lw_all := lw_g (lw_at lw_m1 211 rfl) rfl
theorem q328 : (Jvm.Cond.fieldLink "GrassPark" (102 : Nat) "GrassPark" "taped" "I") ∈ lw_all := lw_g (lw_at lw_m1 212 rfl) rfl
theorem q329 : (Jvm.Cond.fieldLink "GrassPark" (152 : Nat) "GrassPark" "fault" "I") ∈ lw_all := lw_g (lw_at lw_m1 213 rfl) rfl
theorem q330 : (Jvm.Cond.fieldLink "GrassPark" (39 : Nat) "GrassPark" "ground" "LGrassPark$Ground;") ∈ lw_all := lw_g (lw_at lw_m1 214 rfl) rfl
theorem q331 : (Jvm.Cond.fieldLink "GrassPark" (43 : Nat) "GrassPark" "trial" "LGrassPark$Ground;") ∈ lw_all := lw_g (lw_at lw_m1 215 rfl) rfl
theorem q332 : (Jvm.Cond.fieldLink "GrassPark" (49 : Nat) "GrassPark" "law" "LGrassPark$Law;") ∈ lw_all := lw_g (lw_at lw_m1 216 rfl) rfl
theorem q333 : (Jvm.Cond.fieldLink "GrassPark" (55 : Nat) "GrassPark" "habits" "[LGrassPark$Habit;") ∈ lw_all := lw_g (lw_at lw_m1 217 rfl) rfl
theorem q334 : (Jvm.Cond.fieldLink "GrassPark" (59 : Nat) "GrassPark" "images" "[LGrassPark$Ground;") ∈ lw_all := lw_g (lw_at lw_m1 218 rfl) rfl
theorem q335 : (Jvm.Cond.fieldLink "GrassPark" (65 : Nat) "GrassPark" "joined" "[[I") ∈ lw_all := lw_g (lw_at lw_m1 219 rfl) rfl
theorem q336 : (Jvm.Cond.fieldLink "GrassPark" (70 : Nat) "GrassPark" "pavedAt" "[[Z") ∈ lw_all := lw_g (lw_at lw_m1 220 rfl) rfl
theorem q337 : (Jvm.Cond.fieldLink "GrassPark" (73 : Nat) "GrassPark" "fenced" "[I") ∈ lw_all := lw_g (lw_at lw_m1 221 rfl) rfl
theorem q338 : (Jvm.Cond.fieldLink "GrassPark" (343 : Nat) "GrassPark" "fenceMany" "I") ∈ lw_all := lw_g (lw_at lw_m1 222 rfl) rfl
theorem q339 : (Jvm.Cond.fieldLink "GrassPark" (77 : Nat) "GrassPark" "wayCell" "[I") ∈ lw_all := lw_g (lw_at lw_m1 223 rfl) rfl
theorem q340 : (Jvm.Cond.fieldLink "GrassPark" (80 : Nat) "GrassPark" "trace" "[I") ∈ lw_all := lw_g (lw_at lw_m1 224 rfl) rfl
theorem q341 : (Jvm.Cond.fieldLink "GrassPark" (83 : Nat) "GrassPark" "waySteps" "I") ∈ lw_all := lw_g (lw_at lw_m1 225 rfl) rfl
theorem q342 : (Jvm.Cond.fieldLink "GrassPark" (359 : Nat) "GrassPark" "traceSteps" "I") ∈ lw_all := lw_g (lw_at lw_m1 226 rfl) rfl
theorem q343 : (Jvm.Cond.fieldLink "GrassPark" (86 : Nat) "GrassPark" "stepsOf" "[[I") ∈ lw_all := lw_g (lw_at lw_m1 227 rfl) rfl
theorem q344 : (Jvm.Cond.fieldLink "GrassPark" (89 : Nat) "GrassPark" "leastOf" "[I") ∈ lw_all := lw_g (lw_at lw_m1 228 rfl) rfl
theorem q345 : (Jvm.Cond.fieldLink "GrassPark" (92 : Nat) "GrassPark" "mostOf" "[I") ∈ lw_all := lw_g (lw_at lw_m1 229 rfl) rfl
theorem q346 : (Jvm.Cond.fieldLink "GrassPark" (95 : Nat) "GrassPark" "chosen" "[I") ∈ lw_all := lw_g (lw_at lw_m1 230 rfl) rfl
theorem q347 : (Jvm.Cond.fieldLink "GrassPark" (98 : Nat) "GrassPark" "left" "[I") ∈ lw_all := lw_g (lw_at lw_m1 231 rfl) rfl
theorem q348 : (Jvm.Cond.fieldLink "GrassPark" (378 : Nat) "GrassPark" "readMany" "I") ∈ lw_all := lw_g (lw_at lw_m1 232 rfl) rfl
theorem q349 : (Jvm.Cond.fieldLink "GrassPark" (372 : Nat) "GrassPark" "ways" "I") ∈ lw_all := lw_g (lw_at lw_m1 233 rfl) rfl
theorem q350 : (Jvm.Cond.laysFinal "GrassPark" "GrassPark" "tape" "[B") ∈ lw_all := lw_g (lw_at lw_m1 234 rfl) rfl
theorem q351 : (Jvm.Cond.soleField "GrassPark" "tape") ∈ lw_all := lw_g (lw_at lw_m1 235 rfl) rfl
theorem q352 : (Jvm.Cond.lays "GrassPark" "GrassPark" "taped" "I") ∈ lw_all := lw_g (lw_at lw_m1 236 rfl) rfl
theorem q353 : (Jvm.Cond.soleField "GrassPark" "taped") ∈ lw_all := lw_g (lw_at lw_m1 237 rfl) rfl
theorem q354 : (Jvm.Cond.lays "GrassPark" "GrassPark" "fault" "I") ∈ lw_all := lw_g (lw_at lw_m1 238 rfl) rfl
theorem q355 : (Jvm.Cond.soleField "GrassPark" "fault") ∈ lw_all := lw_g (lw_at lw_m1 239 rfl) rfl
theorem q356 : (Jvm.Cond.lays "GrassPark" "GrassPark" "ground" "LGrassPark$Ground;") ∈ lw_all := lw_g (lw_at lw_m2 0 rfl) rfl
theorem q357 : (Jvm.Cond.soleField "GrassPark" "ground") ∈ lw_all := lw_g (lw_at lw_m2 1 rfl) rfl
theorem q358 : (Jvm.Cond.laysFinal "GrassPark" "GrassPark" "trial" "LGrassPark$Ground;") ∈ lw_all := lw_g (lw_at lw_m2 2 rfl) rfl
theorem q359 : (Jvm.Cond.soleField "GrassPark" "trial") ∈ lw_all := lw_g (lw_at lw_m2 3 rfl) rfl
theorem q360 : (Jvm.Cond.lays "GrassPark" "GrassPark" "law" "LGrassPark$Law;") ∈ lw_all := lw_g (lw_at lw_m2 4 rfl) rfl
theorem q361 : (Jvm.Cond.soleField "GrassPark" "law") ∈ lw_all := lw_g (lw_at lw_m2 5 rfl) rfl
theorem q362 : (Jvm.Cond.laysFinal "GrassPark" "GrassPark" "habits" "[LGrassPark$Habit;") ∈ lw_all := lw_g (lw_at lw_m2 6 rfl) rfl
theorem q363 : (Jvm.Cond.soleField "GrassPark" "habits") ∈ lw_all := lw_g (lw_at lw_m2 7 rfl) rfl
theorem q364 : (Jvm.Cond.laysFinal "GrassPark" "GrassPark" "images" "[LGrassPark$Ground;") ∈ lw_all := lw_g (lw_at lw_m2 8 rfl) rfl
theorem q365 : (Jvm.Cond.soleField "GrassPark" "images") ∈ lw_all := lw_g (lw_at lw_m2 9 rfl) rfl
theorem q366 : (Jvm.Cond.laysFinal "GrassPark" "GrassPark" "joined" "[[I") ∈ lw_all := lw_g (lw_at lw_m2 10 rfl) rfl
theorem q367 : (Jvm.Cond.soleField "GrassPark" "joined") ∈ lw_all := lw_g (lw_at lw_m2 11 rfl) rfl
theorem q368 : (Jvm.Cond.laysFinal "GrassPark" "GrassPark" "pavedAt" "[[Z") ∈ lw_all := lw_g (lw_at lw_m2 12 rfl) rfl
theorem q369 : (Jvm.Cond.soleField "GrassPark" "pavedAt") ∈ lw_all := lw_g (lw_at lw_m2 13 rfl) rfl
theorem q370 : (Jvm.Cond.laysFinal "GrassPark" "GrassPark" "fenced" "[I") ∈ lw_all := lw_g (lw_at lw_m2 14 rfl) rfl
theorem q371 : (Jvm.Cond.soleField "GrassPark" "fenced") ∈ lw_all := lw_g (lw_at lw_m2 15 rfl) rfl
theorem q372 : (Jvm.Cond.lays "GrassPark" "GrassPark" "fenceMany" "I") ∈ lw_all := lw_g (lw_at lw_m2 16 rfl) rfl
theorem q373 : (Jvm.Cond.soleField "GrassPark" "fenceMany") ∈ lw_all := lw_g (lw_at lw_m2 17 rfl) rfl
theorem q374 : (Jvm.Cond.laysFinal "GrassPark" "GrassPark" "wayCell" "[I") ∈ lw_all := lw_g (lw_at lw_m2 18 rfl) rfl
theorem q375 : (Jvm.Cond.soleField "GrassPark" "wayCell") ∈ lw_all := lw_g (lw_at lw_m2 19 rfl) rfl
theorem q376 : (Jvm.Cond.laysFinal "GrassPark" "GrassPark" "trace" "[I") ∈ lw_all := lw_g (lw_at lw_m2 20 rfl) rfl
theorem q377 : (Jvm.Cond.soleField "GrassPark" "trace") ∈ lw_all := lw_g (lw_at lw_m2 21 rfl) rfl
theorem q378 : (Jvm.Cond.lays "GrassPark" "GrassPark" "waySteps" "I") ∈ lw_all := lw_g (lw_at lw_m2 22 rfl) rfl
theorem q379 : (Jvm.Cond.soleField "GrassPark" "waySteps") ∈ lw_all := lw_g (lw_at lw_m2 23 rfl) rfl
theorem q380 : (Jvm.Cond.lays "GrassPark" "GrassPark" "traceSteps" "I") ∈ lw_all := lw_g (lw_at lw_m2 24 rfl) rfl
theorem q381 : (Jvm.Cond.soleField "GrassPark" "traceSteps") ∈ lw_all := lw_g (lw_at lw_m2 25 rfl) rfl
theorem q382 : (Jvm.Cond.laysFinal "GrassPark" "GrassPark" "stepsOf" "[[I") ∈ lw_all := lw_g (lw_at lw_m2 26 rfl) rfl
theorem q383 : (Jvm.Cond.soleField "GrassPark" "stepsOf") ∈ lw_all := lw_g (lw_at lw_m2 27 rfl) rfl
theorem q384 : (Jvm.Cond.laysFinal "GrassPark" "GrassPark" "leastOf" "[I") ∈ lw_all := lw_g (lw_at lw_m2 28 rfl) rfl
theorem q385 : (Jvm.Cond.soleField "GrassPark" "leastOf") ∈ lw_all := lw_g (lw_at lw_m2 29 rfl) rfl
theorem q386 : (Jvm.Cond.laysFinal "GrassPark" "GrassPark" "mostOf" "[I") ∈ lw_all := lw_g (lw_at lw_m2 30 rfl) rfl
theorem q387 : (Jvm.Cond.soleField "GrassPark" "mostOf") ∈ lw_all := lw_g (lw_at lw_m2 31 rfl) rfl
theorem q388 : (Jvm.Cond.laysFinal "GrassPark" "GrassPark" "chosen" "[I") ∈ lw_all := lw_g (lw_at lw_m2 32 rfl) rfl
theorem q389 : (Jvm.Cond.soleField "GrassPark" "chosen") ∈ lw_all := lw_g (lw_at lw_m2 33 rfl) rfl
theorem q390 : (Jvm.Cond.laysFinal "GrassPark" "GrassPark" "left" "[I") ∈ lw_all := lw_g (lw_at lw_m2 34 rfl) rfl
theorem q391 : (Jvm.Cond.soleField "GrassPark" "left") ∈ lw_all := lw_g (lw_at lw_m2 35 rfl) rfl
theorem q392 : (Jvm.Cond.lays "GrassPark" "GrassPark" "readMany" "I") ∈ lw_all := lw_g (lw_at lw_m2 36 rfl) rfl
theorem q393 : (Jvm.Cond.soleField "GrassPark" "readMany") ∈ lw_all := lw_g (lw_at lw_m2 37 rfl) rfl
theorem q394 : (Jvm.Cond.lays "GrassPark" "GrassPark" "ways" "I") ∈ lw_all := lw_g (lw_at lw_m2 38 rfl) rfl
theorem q395 : (Jvm.Cond.soleField "GrassPark" "ways") ∈ lw_all := lw_g (lw_at lw_m2 39 rfl) rfl
theorem q396 : (Jvm.Cond.superclass "GrassPark" "java/lang/Object") ∈ lw_all := lw_g (lw_at lw_m2 40 rfl) rfl
theorem q398 : (Jvm.Cond.instanceMethod ({ cls := "GrassPark", name := "feed", desc := "(IIIII)I" } : Jvm.MethodName)) ∈ lw_all := lw_g (lw_at lw_m2 42 rfl) rfl
theorem q399 : (Jvm.Cond.selects "GrassPark" ({ cls := "GrassPark", name := "feed", desc := "(IIIII)I" } : Jvm.MethodName) ({ cls := "GrassPark", name := "feed", desc := "(IIIII)I" } : Jvm.MethodName)) ∈ lw_all := lw_g (lw_at lw_m2 43 rfl) rfl
theorem q400 : (Jvm.Cond.code ({ cls := "GrassPark", name := "feed", desc := "(IIIII)I" } : Jvm.MethodName) prog_1_method_5_code (6 : Nat) (Option.some Jvm.ClassFile.FieldType.int)) ∈ lw_all := lw_g (lw_at lw_m2 44 rfl) rfl
theorem q401 : (Jvm.Cond.methodLink "GrassPark" (105 : Nat) ({ cls := "GrassPark", name := "come", desc := "(I)V" } : Jvm.MethodName)) ∈ lw_all := lw_g (lw_at lw_m2 45 rfl) rfl
theorem q402 : (Jvm.Cond.privateMethod ({ cls := "GrassPark", name := "come", desc := "(I)V" } : Jvm.MethodName)) ∈ lw_tbl := lw_at lw_m2 46 rfl
theorem q403 : (Jvm.Cond.instanceMethod ({ cls := "GrassPark", name := "come", desc := "(I)V" } : Jvm.MethodName)) ∈ lw_all := lw_g (lw_at lw_m2 47 rfl) rfl
theorem q404 : (Jvm.Cond.code ({ cls := "GrassPark", name := "come", desc := "(I)V" } : Jvm.MethodName) prog_1_method_4_code (3 : Nat) (Option.none : Option Jvm.ClassFile.FieldType)) ∈ lw_all := lw_g (lw_at lw_m2 48 rfl) rfl
theorem q406 : (Jvm.Cond.instanceMethod ({ cls := "GrassPark", name := "end", desc := "(I)Z" } : Jvm.MethodName)) ∈ lw_all := lw_g (lw_at lw_m2 50 rfl) rfl
theorem q407 : (Jvm.Cond.selects "GrassPark" ({ cls := "GrassPark", name := "end", desc := "(I)Z" } : Jvm.MethodName) ({ cls := "GrassPark", name := "end", desc := "(I)Z" } : Jvm.MethodName)) ∈ lw_all := lw_g (lw_at lw_m2 51 rfl) rfl
theorem q408 : (Jvm.Cond.code ({ cls := "GrassPark", name := "end", desc := "(I)Z" } : Jvm.MethodName) prog_1_method_6_code (2 : Nat) (Option.some Jvm.ClassFile.FieldType.boolean)) ∈ lw_all := lw_g (lw_at lw_m2 52 rfl) rfl
theorem q410 : (Jvm.Cond.instanceMethod ({ cls := "GrassPark", name := "park", desc := "(II)Z" } : Jvm.MethodName)) ∈ lw_all := lw_g (lw_at lw_m2 54 rfl) rfl
theorem q411 : (Jvm.Cond.selects "GrassPark" ({ cls := "GrassPark", name := "park", desc := "(II)Z" } : Jvm.MethodName) ({ cls := "GrassPark", name := "park", desc := "(II)Z" } : Jvm.MethodName)) ∈ lw_all := lw_g (lw_at lw_m2 55 rfl) rfl
theorem q412 : (Jvm.Cond.code ({ cls := "GrassPark", name := "park", desc := "(II)Z" } : Jvm.MethodName) prog_1_method_9_code (6 : Nat) (Option.some Jvm.ClassFile.FieldType.boolean)) ∈ lw_all := lw_g (lw_at lw_m2 56 rfl) rfl
theorem q413 : (Jvm.Cond.methodLink "GrassPark" (109 : Nat) ({ cls := "GrassPark", name := "take", desc := "()I" } : Jvm.MethodName)) ∈ lw_all := lw_g (lw_at lw_m2 57 rfl) rfl
theorem q414 : (Jvm.Cond.privateMethod ({ cls := "GrassPark", name := "take", desc := "()I" } : Jvm.MethodName)) ∈ lw_tbl := lw_at lw_m2 58 rfl
theorem q415 : (Jvm.Cond.instanceMethod ({ cls := "GrassPark", name := "take", desc := "()I" } : Jvm.MethodName)) ∈ lw_all := lw_g (lw_at lw_m2 59 rfl) rfl
theorem q416 : (Jvm.Cond.code ({ cls := "GrassPark", name := "take", desc := "()I" } : Jvm.MethodName) prog_1_method_7_code (2 : Nat) (Option.some Jvm.ClassFile.FieldType.int)) ∈ lw_all := lw_g (lw_at lw_m2 60 rfl) rfl
theorem q417 : (Jvm.Cond.methodLink "GrassPark" (112 : Nat) ({ cls := "GrassPark", name := "isIn", desc := "(III)Z" } : Jvm.MethodName)) ∈ lw_all := lw_g (lw_at lw_m2 61 rfl) rfl
theorem q418 : (Jvm.Cond.static ({ cls := "GrassPark", name := "isIn", desc := "(III)Z" } : Jvm.MethodName)) ∈ lw_all := lw_g (lw_at lw_m2 62 rfl) rfl
theorem q419 : (Jvm.Cond.code ({ cls := "GrassPark", name := "isIn", desc := "(III)Z" } : Jvm.MethodName) prog_1_method_1_code (3 : Nat) (Option.some Jvm.ClassFile.FieldType.boolean)) ∈ lw_all := lw_g (lw_at lw_m2 63 rfl) rfl
theorem q420 : (Jvm.Cond.methodLink "GrassPark" (116 : Nat) ({ cls := "GrassPark", name := "byteAt", desc := "(I)I" } : Jvm.MethodName)) ∈ lw_all := lw_g (lw_at lw_m2 64 rfl) rfl
theorem q421 : (Jvm.Cond.privateMethod ({ cls := "GrassPark", name := "byteAt", desc := "(I)I" } : Jvm.MethodName)) ∈ lw_tbl := lw_at lw_m2 65 rfl
theorem q422 : (Jvm.Cond.instanceMethod ({ cls := "GrassPark", name := "byteAt", desc := "(I)I" } : Jvm.MethodName)) ∈ lw_all := lw_g (lw_at lw_m2 66 rfl) rfl
theorem q423 : (Jvm.Cond.code ({ cls := "GrassPark", name := "byteAt", desc := "(I)I" } : Jvm.MethodName) prog_1_method_8_code (2 : Nat) (Option.some Jvm.ClassFile.FieldType.int)) ∈ lw_all := lw_g (lw_at lw_m2 67 rfl) rfl
theorem q425 : (Jvm.Cond.instanceMethod ({ cls := "GrassPark", name := "door", desc := "(I)I" } : Jvm.MethodName)) ∈ lw_all := lw_g (lw_at lw_m2 69 rfl) rfl
theorem q426 : (Jvm.Cond.selects "GrassPark" ({ cls := "GrassPark", name := "door", desc := "(I)I" } : Jvm.MethodName) ({ cls := "GrassPark", name := "door", desc := "(I)I" } : Jvm.MethodName)) ∈ lw_all := lw_g (lw_at lw_m2 70 rfl) rfl
theorem q427 : (Jvm.Cond.code ({ cls := "GrassPark", name := "door", desc := "(I)I" } : Jvm.MethodName) prog_1_method_10_code (3 : Nat) (Option.some Jvm.ClassFile.FieldType.int)) ∈ lw_all := lw_g (lw_at lw_m2 71 rfl) rfl
theorem q428 : (Jvm.Cond.methodLink "GrassPark" (139 : Nat) ({ cls := "GrassPark$Ground", name := "isCell", desc := "(I)Z" } : Jvm.MethodName)) ∈ lw_all := lw_g (lw_at lw_m2 72 rfl) rfl
theorem q437 : (Jvm.Cond.methodLink "GrassPark" (143 : Nat) ({ cls := "GrassPark$Ground", name := "isFree", desc := "(I)Z" } : Jvm.MethodName)) ∈ lw_all := lw_g (lw_at lw_m2 81 rfl) rfl
theorem q441 : (Jvm.Cond.methodLink "GrassPark" (146 : Nat) ({ cls := "GrassPark$Ground", name := "isDoor", desc := "(I)Z" } : Jvm.MethodName)) ∈ lw_all := lw_g (lw_at lw_m2 85 rfl) rfl
theorem q446 : (Jvm.Cond.instanceMethod ({ cls := "GrassPark", name := "law", desc := "()I" } : Jvm.MethodName)) ∈ lw_all := lw_g (lw_at lw_m2 90 rfl) rfl
theorem q447 : (Jvm.Cond.selects "GrassPark" ({ cls := "GrassPark", name := "law", desc := "()I" } : Jvm.MethodName) ({ cls := "GrassPark", name := "law", desc := "()I" } : Jvm.MethodName)) ∈ lw_all := lw_g (lw_at lw_m2 91 rfl) rfl
theorem q448 : (Jvm.Cond.codeWith ({ cls := "GrassPark", name := "law", desc := "()I" } : Jvm.MethodName) prog_1_method_11_code (3 : Nat) (Option.some Jvm.ClassFile.FieldType.int) [((10 : Nat), (35 : Nat), (36 : Nat), (167 : Nat))]) ∈ lw_all := lw_g (lw_at lw_m2 92 rfl) rfl
theorem q449 : (Jvm.Cond.classLink "GrassPark" (167 : Nat) "GrassPark$Fault") ∈ lw_all := lw_g (lw_at lw_m2 93 rfl) rfl
theorem q450 : (Jvm.Cond.classLink "GrassPark" (155 : Nat) "GrassPark$Reader") ∈ lw_all := lw_g (lw_at lw_m2 94 rfl) rfl
theorem q452 : (Jvm.Cond.methodLink "GrassPark" (157 : Nat) ({ cls := "GrassPark$Reader", name := "<init>", desc := "([BI)V" } : Jvm.MethodName)) ∈ lw_all := lw_g (lw_at lw_m2 96 rfl) rfl
theorem q466 : (Jvm.Cond.fieldLinkNest "GrassPark" (164 : Nat) "GrassPark$Reader" "lines" "I" "GrassPark") ∈ lw_tbl := lw_at lw_m2 110 rfl
theorem q495 : (Jvm.Cond.methodLink "GrassPark" (160 : Nat) ({ cls := "GrassPark$Reader", name := "readLaw", desc := "()LGrassPark$Law;" } : Jvm.MethodName)) ∈ lw_all := lw_g (lw_at lw_m2 139 rfl) rfl
theorem q949 : (Jvm.Cond.fieldLinkNest "GrassPark" (169 : Nat) "GrassPark$Fault" "kind" "I" "GrassPark") ∈ lw_tbl := lw_at lw_m4 113 rfl
theorem q951 : (Jvm.Cond.fieldLinkNest "GrassPark" (171 : Nat) "GrassPark$Fault" "place" "I" "GrassPark") ∈ lw_tbl := lw_at lw_m4 115 rfl
theorem q1031 : (Jvm.Cond.fieldLinkNest "GrassPark" (15 : Nat) "GrassPark$Line" "what" "I" "GrassPark") ∈ lw_tbl := lw_at lw_m4 195 rfl
theorem q1035 : (Jvm.Cond.fieldLinkNest "GrassPark" (23 : Nat) "GrassPark$Line" "number" "I" "GrassPark") ∈ lw_tbl := lw_at lw_m4 199 rfl
theorem q1069 : (Jvm.Cond.selects "GrassPark" ({ cls := "java/lang/Object", name := "getClass", desc := "()Ljava/lang/Class;" } : Jvm.MethodName) ({ cls := "java/lang/Object", name := "getClass", desc := "()Ljava/lang/Class;" } : Jvm.MethodName)) ∈ lw_all := lw_g (lw_at lw_m4 233 rfl) rfl
theorem q1099 : (Jvm.Cond.instanceMethod ({ cls := "GrassPark", name := "habit", desc := "(I)I" } : Jvm.MethodName)) ∈ lw_all := lw_g (lw_at lw_m5 23 rfl) rfl
theorem q1100 : (Jvm.Cond.selects "GrassPark" ({ cls := "GrassPark", name := "habit", desc := "(I)I" } : Jvm.MethodName) ({ cls := "GrassPark", name := "habit", desc := "(I)I" } : Jvm.MethodName)) ∈ lw_all := lw_g (lw_at lw_m5 24 rfl) rfl
theorem q1101 : (Jvm.Cond.codeWith ({ cls := "GrassPark", name := "habit", desc := "(I)I" } : Jvm.MethodName) prog_1_method_13_code (4 : Nat) (Option.some Jvm.ClassFile.FieldType.int) [((21 : Nat), (48 : Nat), (49 : Nat), (167 : Nat))]) ∈ lw_all := lw_g (lw_at lw_m5 25 rfl) rfl
theorem q1102 : (Jvm.Cond.methodLink "GrassPark" (174 : Nat) ({ cls := "GrassPark", name := "isHabit", desc := "(I)Z" } : Jvm.MethodName)) ∈ lw_all := lw_g (lw_at lw_m5 26 rfl) rfl
theorem q1103 : (Jvm.Cond.static ({ cls := "GrassPark", name := "isHabit", desc := "(I)Z" } : Jvm.MethodName)) ∈ lw_all := lw_g (lw_at lw_m5 27 rfl) rfl
theorem q1104 : (Jvm.Cond.code ({ cls := "GrassPark", name := "isHabit", desc := "(I)Z" } : Jvm.MethodName) prog_1_method_12_code (1 : Nat) (Option.some Jvm.ClassFile.FieldType.boolean)) ∈ lw_all := lw_g (lw_at lw_m5 28 rfl) rfl
theorem q1105 : (Jvm.Cond.methodLink "GrassPark" (177 : Nat) ({ cls := "GrassPark$Reader", name := "readHabit", desc := "()LGrassPark$Habit;" } : Jvm.MethodName)) ∈ lw_all := lw_g (lw_at lw_m5 29 rfl) rfl
theorem q1116 : (Jvm.Cond.instanceMethod ({ cls := "GrassPark", name := "fault", desc := "()I" } : Jvm.MethodName)) ∈ lw_all := lw_g (lw_at lw_m5 40 rfl) rfl
theorem q1117 : (Jvm.Cond.selects "GrassPark" ({ cls := "GrassPark", name := "fault", desc := "()I" } : Jvm.MethodName) ({ cls := "GrassPark", name := "fault", desc := "()I" } : Jvm.MethodName)) ∈ lw_all := lw_g (lw_at lw_m5 41 rfl) rfl
theorem q1118 : (Jvm.Cond.code ({ cls := "GrassPark", name := "fault", desc := "()I" } : Jvm.MethodName) prog_1_method_14_code (1 : Nat) (Option.some Jvm.ClassFile.FieldType.int)) ∈ lw_all := lw_g (lw_at lw_m5 42 rfl) rfl
theorem q1120 : (Jvm.Cond.instanceMethod ({ cls := "GrassPark", name := "wish", desc := "(IIIII)I" } : Jvm.MethodName)) ∈ lw_all := lw_g (lw_at lw_m5 44 rfl) rfl
theorem q1121 : (Jvm.Cond.selects "GrassPark" ({ cls := "GrassPark", name := "wish", desc := "(IIIII)I" } : Jvm.MethodName) ({ cls := "GrassPark", name := "wish", desc := "(IIIII)I" } : Jvm.MethodName)) ∈ lw_all := lw_g (lw_at lw_m5 45 rfl) rfl
theorem q1122 : (Jvm.Cond.code ({ cls := "GrassPark", name := "wish", desc := "(IIIII)I" } : Jvm.MethodName) prog_1_method_17_code (6 : Nat) (Option.some Jvm.ClassFile.FieldType.int)) ∈ lw_all := lw_g (lw_at lw_m5 46 rfl) rfl
theorem q1123 : (Jvm.Cond.methodLink "GrassPark" (3 : Nat) ({ cls := "java/util/ArrayList", name := "size", desc := "()I" } : Jvm.MethodName)) ∈ lw_all := lw_g (lw_at lw_m5 47 rfl) rfl
theorem q1127 : (Jvm.Cond.methodLink "GrassPark" (186 : Nat) ({ cls := "GrassPark", name := "areDoors", desc := "(II)Z" } : Jvm.MethodName)) ∈ lw_all := lw_g (lw_at lw_m5 51 rfl) rfl
theorem q1128 : (Jvm.Cond.privateMethod ({ cls := "GrassPark", name := "areDoors", desc := "(II)Z" } : Jvm.MethodName)) ∈ lw_tbl := lw_at lw_m5 52 rfl
theorem q1129 : (Jvm.Cond.instanceMethod ({ cls := "GrassPark", name := "areDoors", desc := "(II)Z" } : Jvm.MethodName)) ∈ lw_all := lw_g (lw_at lw_m5 53 rfl) rfl
theorem q1130 : (Jvm.Cond.code ({ cls := "GrassPark", name := "areDoors", desc := "(II)Z" } : Jvm.MethodName) prog_1_method_16_code (3 : Nat) (Option.some Jvm.ClassFile.FieldType.boolean)) ∈ lw_all := lw_g (lw_at lw_m5 54 rfl) rfl
theorem q1131 : (Jvm.Cond.methodLink "GrassPark" (181 : Nat) ({ cls := "GrassPark", name := "isDoor", desc := "(I)Z" } : Jvm.MethodName)) ∈ lw_all := lw_g (lw_at lw_m5 55 rfl) rfl
theorem q1132 : (Jvm.Cond.privateMethod ({ cls := "GrassPark", name := "isDoor", desc := "(I)Z" } : Jvm.MethodName)) ∈ lw_tbl := lw_at lw_m5 56 rfl
theorem q1133 : (Jvm.Cond.instanceMethod ({ cls := "GrassPark", name := "isDoor", desc := "(I)Z" } : Jvm.MethodName)) ∈ lw_all := lw_g (lw_at lw_m5 57 rfl) rfl
theorem q1134 : (Jvm.Cond.code ({ cls := "GrassPark", name := "isDoor", desc := "(I)Z" } : Jvm.MethodName) prog_1_method_15_code (2 : Nat) (Option.some Jvm.ClassFile.FieldType.boolean)) ∈ lw_all := lw_g (lw_at lw_m5 58 rfl) rfl
theorem q1135 : (Jvm.Cond.constant "GrassPark" (190 : Nat) (60000 : Int32)) ∈ lw_all := lw_g (lw_at lw_m5 59 rfl) rfl
theorem q1136 : (Jvm.Cond.classLink "GrassPark" (191 : Nat) "GrassPark$Wish") ∈ lw_all := lw_g (lw_at lw_m5 60 rfl) rfl
theorem q1138 : (Jvm.Cond.methodLink "GrassPark" (193 : Nat) ({ cls := "GrassPark$Wish", name := "<init>", desc := "(IIIII)V" } : Jvm.MethodName)) ∈ lw_all := lw_g (lw_at lw_m5 62 rfl) rfl
theorem q1151 : (Jvm.Cond.fieldLinkNest "GrassPark" (200 : Nat) "GrassPark$Wish" "isGone" "Z" "GrassPark") ∈ lw_tbl := lw_at lw_m5 75 rfl
theorem q1165 : (Jvm.Cond.methodLink "GrassPark" (196 : Nat) ({ cls := "java/util/ArrayList", name := "add", desc := "(Ljava/lang/Object;)Z" } : Jvm.MethodName)) ∈ lw_all := lw_g (lw_at lw_m5 89 rfl) rfl
theorem q1167 : (Jvm.Cond.instanceMethod ({ cls := "GrassPark", name := "drop", desc := "(I)Z" } : Jvm.MethodName)) ∈ lw_all := lw_g (lw_at lw_m5 91 rfl) rfl
theorem q1168 : (Jvm.Cond.selects "GrassPark" ({ cls := "GrassPark", name := "drop", desc := "(I)Z" } : Jvm.MethodName) ({ cls := "GrassPark", name := "drop", desc := "(I)Z" } : Jvm.MethodName)) ∈ lw_all := lw_g (lw_at lw_m5 92 rfl) rfl
theorem q1169 : (Jvm.Cond.code ({ cls := "GrassPark", name := "drop", desc := "(I)Z" } : Jvm.MethodName) prog_1_method_19_code (2 : Nat) (Option.some Jvm.ClassFile.FieldType.boolean)) ∈ lw_all := lw_g (lw_at lw_m5 93 rfl) rfl
theorem q1170 : (Jvm.Cond.methodLink "GrassPark" (204 : Nat) ({ cls := "GrassPark", name := "isWish", desc := "(I)Z" } : Jvm.MethodName)) ∈ lw_all := lw_g (lw_at lw_m5 94 rfl) rfl
theorem q1171 : (Jvm.Cond.privateMethod ({ cls := "GrassPark", name := "isWish", desc := "(I)Z" } : Jvm.MethodName)) ∈ lw_tbl := lw_at lw_m5 95 rfl
theorem q1172 : (Jvm.Cond.instanceMethod ({ cls := "GrassPark", name := "isWish", desc := "(I)Z" } : Jvm.MethodName)) ∈ lw_all := lw_g (lw_at lw_m5 96 rfl) rfl
theorem q1173 : (Jvm.Cond.code ({ cls := "GrassPark", name := "isWish", desc := "(I)Z" } : Jvm.MethodName) prog_1_method_18_code (2 : Nat) (Option.some Jvm.ClassFile.FieldType.boolean)) ∈ lw_all := lw_g (lw_at lw_m5 97 rfl) rfl
theorem q1174 : (Jvm.Cond.methodLink "GrassPark" (9 : Nat) ({ cls := "java/util/ArrayList", name := "get", desc := "(I)Ljava/lang/Object;" } : Jvm.MethodName)) ∈ lw_all := lw_g (lw_at lw_m5 98 rfl) rfl
theorem q1187 : (Jvm.Cond.instanceMethod ({ cls := "GrassPark", name := "run", desc := "(I)I" } : Jvm.MethodName)) ∈ lw_all := lw_g (lw_at lw_m5 111 rfl) rfl
theorem q1188 : (Jvm.Cond.selects "GrassPark" ({ cls := "GrassPark", name := "run", desc := "(I)I" } : Jvm.MethodName) ({ cls := "GrassPark", name := "run", desc := "(I)I" } : Jvm.MethodName)) ∈ lw_all := lw_g (lw_at lw_m5 112 rfl) rfl
theorem q1189 : (Jvm.Cond.code ({ cls := "GrassPark", name := "run", desc := "(I)I" } : Jvm.MethodName) prog_1_method_20_code (3 : Nat) (Option.some Jvm.ClassFile.FieldType.int)) ∈ lw_all := lw_g (lw_at lw_m5 113 rfl) rfl
theorem q1190 : (Jvm.Cond.methodLink "GrassPark" (213 : Nat) ({ cls := "GrassPark$Ground", name := "go", desc := "(ILGrassPark$Law;[LGrassPark$Habit;)V" } : Jvm.MethodName)) ∈ lw_all := lw_g (lw_at lw_m5 114 rfl) rfl
theorem q1221 : (Jvm.Cond.fieldLinkNest "GrassPark" (362 : Nat) "GrassPark$Walker" "goal" "I" "GrassPark") ∈ lw_tbl := lw_at lw_m5 145 rfl
theorem q1225 : (Jvm.Cond.fieldLinkNest "GrassPark" (284 : Nat) "GrassPark$Walker" "wish" "I" "GrassPark") ∈ lw_tbl := lw_at lw_m5 149 rfl
theorem q1228 : (Jvm.Cond.fieldLinkNest "GrassPark" (281 : Nat) "GrassPark$Walker" "at" "I" "GrassPark") ∈ lw_tbl := lw_at lw_m5 152 rfl
theorem q1231 : (Jvm.Cond.fieldLinkNest "GrassPark" (287 : Nat) "GrassPark$Walker" "age" "I" "GrassPark") ∈ lw_tbl := lw_at lw_m5 155 rfl
theorem q1344 : (Jvm.Cond.static ({ cls := "GrassPark", name := "firstOf", desc := "(Ljava/util/ArrayList;IILGrassPark$Ground;LGrassPark$Law;I)I" } : Jvm.MethodName)) ∈ lw_all := lw_g (lw_at lw_m6 28 rfl) rfl
theorem q1345 : (Jvm.Cond.code ({ cls := "GrassPark", name := "firstOf", desc := "(Ljava/util/ArrayList;IILGrassPark$Ground;LGrassPark$Law;I)I" } : Jvm.MethodName) prog_1_method_2_code (7 : Nat) (Option.some Jvm.ClassFile.FieldType.int)) ∈ lw_all := lw_g (lw_at lw_m6 29 rfl) rfl
theorem q1346 : (Jvm.Cond.classLink "GrassPark" (13 : Nat) "GrassPark$Line") ∈ lw_all := lw_g (lw_at lw_m6 30 rfl) rfl
theorem q1347 : (Jvm.Cond.methodLink "GrassPark" (19 : Nat) ({ cls := "GrassPark$Line", name := "holds", desc := "(LGrassPark$Ground;LGrassPark$Law;I)Z" } : Jvm.MethodName)) ∈ lw_all := lw_g (lw_at lw_m6 31 rfl) rfl
theorem q1353 : (Jvm.Cond.instanceMethod ({ cls := "GrassPark", name := "week", desc := "()I" } : Jvm.MethodName)) ∈ lw_all := lw_g (lw_at lw_m6 37 rfl) rfl
theorem q1354 : (Jvm.Cond.selects "GrassPark" ({ cls := "GrassPark", name := "week", desc := "()I" } : Jvm.MethodName) ({ cls := "GrassPark", name := "week", desc := "()I" } : Jvm.MethodName)) ∈ lw_all := lw_g (lw_at lw_m6 38 rfl) rfl
theorem q1355 : (Jvm.Cond.code ({ cls := "GrassPark", name := "week", desc := "()I" } : Jvm.MethodName) prog_1_method_21_code (1 : Nat) (Option.some Jvm.ClassFile.FieldType.int)) ∈ lw_all := lw_g (lw_at lw_m6 39 rfl) rfl
theorem q1356 : (Jvm.Cond.methodLink "GrassPark" (217 : Nat) ({ cls := "GrassPark$Ground", name := "week", desc := "(LGrassPark$Law;)V" } : Jvm.MethodName)) ∈ lw_all := lw_g (lw_at lw_m6 40 rfl) rfl
theorem q1364 : (Jvm.Cond.methodLink "GrassPark" (221 : Nat) ({ cls := "GrassPark$Ground", name := "net", desc := "(LGrassPark$Law;)I" } : Jvm.MethodName)) ∈ lw_all := lw_g (lw_at lw_m6 48 rfl) rfl
theorem q1369 : (Jvm.Cond.instanceMethod ({ cls := "GrassPark", name := "rain", desc := "(I)Z" } : Jvm.MethodName)) ∈ lw_all := lw_g (lw_at lw_m6 53 rfl) rfl
theorem q1370 : (Jvm.Cond.selects "GrassPark" ({ cls := "GrassPark", name := "rain", desc := "(I)Z" } : Jvm.MethodName) ({ cls := "GrassPark", name := "rain", desc := "(I)Z" } : Jvm.MethodName)) ∈ lw_all := lw_g (lw_at lw_m6 54 rfl) rfl
theorem q1371 : (Jvm.Cond.code ({ cls := "GrassPark", name := "rain", desc := "(I)Z" } : Jvm.MethodName) prog_1_method_22_code (4 : Nat) (Option.some Jvm.ClassFile.FieldType.boolean)) ∈ lw_all := lw_g (lw_at lw_m6 55 rfl) rfl
theorem q1372 : (Jvm.Cond.methodLink "GrassPark" (225 : Nat) ({ cls := "GrassPark$Ground", name := "cells", desc := "()I" } : Jvm.MethodName)) ∈ lw_all := lw_g (lw_at lw_m6 56 rfl) rfl
theorem q1373 : (Jvm.Cond.methodLink "GrassPark" (228 : Nat) ({ cls := "GrassPark$Ground", name := "isSoft", desc := "(I)Z" } : Jvm.MethodName)) ∈ lw_all := lw_g (lw_at lw_m6 57 rfl) rfl
theorem q1374 : (Jvm.Cond.methodLink "GrassPark" (234 : Nat) ({ cls := "java/lang/Math", name := "min", desc := "(II)I" } : Jvm.MethodName)) ∈ lw_all := lw_g (lw_at lw_m6 58 rfl) rfl
theorem q1376 : (Jvm.Cond.instanceMethod ({ cls := "GrassPark", name := "snow", desc := "()V" } : Jvm.MethodName)) ∈ lw_all := lw_g (lw_at lw_m6 60 rfl) rfl
theorem q1377 : (Jvm.Cond.selects "GrassPark" ({ cls := "GrassPark", name := "snow", desc := "()V" } : Jvm.MethodName) ({ cls := "GrassPark", name := "snow", desc := "()V" } : Jvm.MethodName)) ∈ lw_all := lw_g (lw_at lw_m6 61 rfl) rfl
theorem q1378 : (Jvm.Cond.code ({ cls := "GrassPark", name := "snow", desc := "()V" } : Jvm.MethodName) prog_1_method_23_code (1 : Nat) (Option.none : Option Jvm.ClassFile.FieldType)) ∈ lw_all := lw_g (lw_at lw_m6 62 rfl) rfl
theorem q1379 : (Jvm.Cond.methodLink "GrassPark" (243 : Nat) ({ cls := "java/util/Arrays", name := "fill", desc := "([II)V" } : Jvm.MethodName)) ∈ lw_all := lw_g (lw_at lw_m6 63 rfl) rfl
theorem q1383 : (Jvm.Cond.instanceMethod ({ cls := "GrassPark", name := "lay", desc := "(II)Z" } : Jvm.MethodName)) ∈ lw_all := lw_g (lw_at lw_m6 67 rfl) rfl
theorem q1384 : (Jvm.Cond.selects "GrassPark" ({ cls := "GrassPark", name := "lay", desc := "(II)Z" } : Jvm.MethodName) ({ cls := "GrassPark", name := "lay", desc := "(II)Z" } : Jvm.MethodName)) ∈ lw_all := lw_g (lw_at lw_m6 68 rfl) rfl
theorem q1385 : (Jvm.Cond.code ({ cls := "GrassPark", name := "lay", desc := "(II)Z" } : Jvm.MethodName) prog_1_method_24_code (4 : Nat) (Option.some Jvm.ClassFile.FieldType.boolean)) ∈ lw_all := lw_g (lw_at lw_m6 69 rfl) rfl
theorem q1386 : (Jvm.Cond.methodLink "GrassPark" (249 : Nat) ({ cls := "GrassPark$Ground", name := "isWalkedOn", desc := "(I)Z" } : Jvm.MethodName)) ∈ lw_all := lw_g (lw_at lw_m6 70 rfl) rfl
theorem q1390 : (Jvm.Cond.methodLink "GrassPark" (252 : Nat) ({ cls := "GrassPark$Ground", name := "lay", desc := "(II)V" } : Jvm.MethodName)) ∈ lw_all := lw_g (lw_at lw_m6 74 rfl) rfl
theorem q1395 : (Jvm.Cond.instanceMethod ({ cls := "GrassPark", name := "walker", desc := "(II)I" } : Jvm.MethodName)) ∈ lw_all := lw_g (lw_at lw_m6 79 rfl) rfl
theorem q1396 : (Jvm.Cond.selects "GrassPark" ({ cls := "GrassPark", name := "walker", desc := "(II)I" } : Jvm.MethodName) ({ cls := "GrassPark", name := "walker", desc := "(II)I" } : Jvm.MethodName)) ∈ lw_all := lw_g (lw_at lw_m6 80 rfl) rfl
theorem q1397 : (Jvm.Cond.code ({ cls := "GrassPark", name := "walker", desc := "(II)I" } : Jvm.MethodName) prog_1_method_27_code (4 : Nat) (Option.some Jvm.ClassFile.FieldType.int)) ∈ lw_all := lw_g (lw_at lw_m6 81 rfl) rfl
theorem q1398 : (Jvm.Cond.classLink "GrassPark" (279 : Nat) "GrassPark$Walker") ∈ lw_all := lw_g (lw_at lw_m6 82 rfl) rfl
theorem q1400 : (Jvm.Cond.instanceMethod ({ cls := "GrassPark", name := "net", desc := "()I" } : Jvm.MethodName)) ∈ lw_all := lw_g (lw_at lw_m6 84 rfl) rfl
theorem q1401 : (Jvm.Cond.selects "GrassPark" ({ cls := "GrassPark", name := "net", desc := "()I" } : Jvm.MethodName) ({ cls := "GrassPark", name := "net", desc := "()I" } : Jvm.MethodName)) ∈ lw_all := lw_g (lw_at lw_m6 85 rfl) rfl
theorem q1402 : (Jvm.Cond.code ({ cls := "GrassPark", name := "net", desc := "()I" } : Jvm.MethodName) prog_1_method_28_code (1 : Nat) (Option.some Jvm.ClassFile.FieldType.int)) ∈ lw_all := lw_g (lw_at lw_m6 86 rfl) rfl
theorem q1404 : (Jvm.Cond.instanceMethod ({ cls := "GrassPark", name := "pieces", desc := "()I" } : Jvm.MethodName)) ∈ lw_all := lw_g (lw_at lw_m6 88 rfl) rfl
theorem q1405 : (Jvm.Cond.selects "GrassPark" ({ cls := "GrassPark", name := "pieces", desc := "()I" } : Jvm.MethodName) ({ cls := "GrassPark", name := "pieces", desc := "()I" } : Jvm.MethodName)) ∈ lw_all := lw_g (lw_at lw_m6 89 rfl) rfl
theorem q1406 : (Jvm.Cond.code ({ cls := "GrassPark", name := "pieces", desc := "()I" } : Jvm.MethodName) prog_1_method_29_code (10 : Nat) (Option.some Jvm.ClassFile.FieldType.int)) ∈ lw_all := lw_g (lw_at lw_m6 90 rfl) rfl
theorem q1407 : (Jvm.Cond.methodLink "GrassPark" (269 : Nat) ({ cls := "GrassPark$Ground", name := "isWorn", desc := "(LGrassPark$Law;I)Z" } : Jvm.MethodName)) ∈ lw_all := lw_g (lw_at lw_m6 91 rfl) rfl
theorem q1408 : (Jvm.Cond.methodLink "GrassPark" (290 : Nat) ({ cls := "GrassPark$Ground", name := "beside", desc := "(II)I" } : Jvm.MethodName)) ∈ lw_all := lw_g (lw_at lw_m6 92 rfl) rfl
theorem q1410 : (Jvm.Cond.instanceMethod ({ cls := "GrassPark", name := "rests", desc := "(II)I" } : Jvm.MethodName)) ∈ lw_all := lw_g (lw_at lw_m6 94 rfl) rfl
theorem q1411 : (Jvm.Cond.selects "GrassPark" ({ cls := "GrassPark", name := "rests", desc := "(II)I" } : Jvm.MethodName) ({ cls := "GrassPark", name := "rests", desc := "(II)I" } : Jvm.MethodName)) ∈ lw_all := lw_g (lw_at lw_m6 95 rfl) rfl
theorem q1412 : (Jvm.Cond.code ({ cls := "GrassPark", name := "rests", desc := "(II)I" } : Jvm.MethodName) prog_1_method_33_code (7 : Nat) (Option.some Jvm.ClassFile.FieldType.int)) ∈ lw_all := lw_g (lw_at lw_m6 96 rfl) rfl
theorem q1413 : (Jvm.Cond.methodLink "GrassPark" (293 : Nat) ({ cls := "GrassPark", name := "isCase", desc := "(IIII)Z" } : Jvm.MethodName)) ∈ lw_all := lw_g (lw_at lw_m6 97 rfl) rfl
theorem q1414 : (Jvm.Cond.static ({ cls := "GrassPark", name := "isCase", desc := "(IIII)Z" } : Jvm.MethodName)) ∈ lw_all := lw_g (lw_at lw_m6 98 rfl) rfl
theorem q1415 : (Jvm.Cond.code ({ cls := "GrassPark", name := "isCase", desc := "(IIII)Z" } : Jvm.MethodName) prog_1_method_31_code (4 : Nat) (Option.some Jvm.ClassFile.FieldType.boolean)) ∈ lw_all := lw_g (lw_at lw_m6 99 rfl) rfl
theorem q1416 : (Jvm.Cond.methodLink "GrassPark" (297 : Nat) ({ cls := "GrassPark$Ground", name := "into", desc := "(LGrassPark$Ground;)LGrassPark$Ground;" } : Jvm.MethodName)) ∈ lw_all := lw_g (lw_at lw_m6 100 rfl) rfl
theorem q1436 : (Jvm.Cond.methodLink "GrassPark" (301 : Nat) ({ cls := "GrassPark", name := "netOf", desc := "(LGrassPark$Ground;[Z)V" } : Jvm.MethodName)) ∈ lw_all := lw_g (lw_at lw_m6 120 rfl) rfl
theorem q1437 : (Jvm.Cond.privateMethod ({ cls := "GrassPark", name := "netOf", desc := "(LGrassPark$Ground;[Z)V" } : Jvm.MethodName)) ∈ lw_tbl := lw_at lw_m6 121 rfl
theorem q1438 : (Jvm.Cond.instanceMethod ({ cls := "GrassPark", name := "netOf", desc := "(LGrassPark$Ground;[Z)V" } : Jvm.MethodName)) ∈ lw_all := lw_g (lw_at lw_m6 122 rfl) rfl
theorem q1439 : (Jvm.Cond.code ({ cls := "GrassPark", name := "netOf", desc := "(LGrassPark$Ground;[Z)V" } : Jvm.MethodName) prog_1_method_30_code (4 : Nat) (Option.none : Option Jvm.ClassFile.FieldType)) ∈ lw_all := lw_g (lw_at lw_m6 123 rfl) rfl
theorem q1440 : (Jvm.Cond.methodLink "GrassPark" (305 : Nat) ({ cls := "GrassPark$Ground", name := "goWeek", desc := "(ILGrassPark$Law;[LGrassPark$Habit;)V" } : Jvm.MethodName)) ∈ lw_all := lw_g (lw_at lw_m6 124 rfl) rfl
theorem q1446 : (Jvm.Cond.methodLink "GrassPark" (308 : Nat) ({ cls := "GrassPark", name := "isSame", desc := "([Z[Z)Z" } : Jvm.MethodName)) ∈ lw_all := lw_g (lw_at lw_m6 130 rfl) rfl
theorem q1447 : (Jvm.Cond.static ({ cls := "GrassPark", name := "isSame", desc := "([Z[Z)Z" } : Jvm.MethodName)) ∈ lw_all := lw_g (lw_at lw_m6 131 rfl) rfl
theorem q1448 : (Jvm.Cond.code ({ cls := "GrassPark", name := "isSame", desc := "([Z[Z)Z" } : Jvm.MethodName) prog_1_method_32_code (3 : Nat) (Option.some Jvm.ClassFile.FieldType.boolean)) ∈ lw_all := lw_g (lw_at lw_m6 132 rfl) rfl
theorem q1449 : (Jvm.Cond.methodLink "GrassPark" (312 : Nat) ({ cls := "java/lang/System", name := "arraycopy", desc := "(Ljava/lang/Object;ILjava/lang/Object;II)V" } : Jvm.MethodName)) ∈ lw_all := lw_g (lw_at lw_m6 133 rfl) rfl
theorem q1451 : (Jvm.Cond.instanceMethod ({ cls := "GrassPark", name := "least", desc := "()I" } : Jvm.MethodName)) ∈ lw_all := lw_g (lw_at lw_m6 135 rfl) rfl
theorem q1452 : (Jvm.Cond.selects "GrassPark" ({ cls := "GrassPark", name := "least", desc := "()I" } : Jvm.MethodName) ({ cls := "GrassPark", name := "least", desc := "()I" } : Jvm.MethodName)) ∈ lw_all := lw_g (lw_at lw_m6 136 rfl) rfl
theorem q1453 : (Jvm.Cond.code ({ cls := "GrassPark", name := "least", desc := "()I" } : Jvm.MethodName) prog_1_method_35_code (7 : Nat) (Option.some Jvm.ClassFile.FieldType.int)) ∈ lw_all := lw_g (lw_at lw_m6 137 rfl) rfl
theorem q1454 : (Jvm.Cond.constant "GrassPark" (318 : Nat) (268435456 : Int32)) ∈ lw_all := lw_g (lw_at lw_m6 138 rfl) rfl
theorem q1455 : (Jvm.Cond.methodLink "GrassPark" (319 : Nat) ({ cls := "GrassPark", name := "price", desc := "(I)I" } : Jvm.MethodName)) ∈ lw_all := lw_g (lw_at lw_m6 139 rfl) rfl
theorem q1456 : (Jvm.Cond.privateMethod ({ cls := "GrassPark", name := "price", desc := "(I)I" } : Jvm.MethodName)) ∈ lw_tbl := lw_at lw_m6 140 rfl
theorem q1457 : (Jvm.Cond.instanceMethod ({ cls := "GrassPark", name := "price", desc := "(I)I" } : Jvm.MethodName)) ∈ lw_all := lw_g (lw_at lw_m6 141 rfl) rfl
theorem q1458 : (Jvm.Cond.code ({ cls := "GrassPark", name := "price", desc := "(I)I" } : Jvm.MethodName) prog_1_method_34_code (2 : Nat) (Option.some Jvm.ClassFile.FieldType.int)) ∈ lw_all := lw_g (lw_at lw_m6 142 rfl) rfl
theorem q1459 : (Jvm.Cond.methodLink "GrassPark" (322 : Nat) ({ cls := "GrassPark", name := "spread", desc := "([I)V" } : Jvm.MethodName)) ∈ lw_all := lw_g (lw_at lw_m6 143 rfl) rfl
theorem q1460 : (Jvm.Cond.privateMethod ({ cls := "GrassPark", name := "spread", desc := "([I)V" } : Jvm.MethodName)) ∈ lw_tbl := lw_at lw_m6 144 rfl
theorem q1461 : (Jvm.Cond.instanceMethod ({ cls := "GrassPark", name := "spread", desc := "([I)V" } : Jvm.MethodName)) ∈ lw_all := lw_g (lw_at lw_m6 145 rfl) rfl
theorem q1462 : (Jvm.Cond.code ({ cls := "GrassPark", name := "spread", desc := "([I)V" } : Jvm.MethodName) prog_1_method_36_code (7 : Nat) (Option.none : Option Jvm.ClassFile.FieldType)) ∈ lw_all := lw_g (lw_at lw_m6 146 rfl) rfl
theorem q1464 : (Jvm.Cond.instanceMethod ({ cls := "GrassPark", name := "longer", desc := "(II)I" } : Jvm.MethodName)) ∈ lw_all := lw_g (lw_at lw_m6 148 rfl) rfl
theorem q1465 : (Jvm.Cond.selects "GrassPark" ({ cls := "GrassPark", name := "longer", desc := "(II)I" } : Jvm.MethodName) ({ cls := "GrassPark", name := "longer", desc := "(II)I" } : Jvm.MethodName)) ∈ lw_all := lw_g (lw_at lw_m6 149 rfl) rfl
theorem q1466 : (Jvm.Cond.code ({ cls := "GrassPark", name := "longer", desc := "(II)I" } : Jvm.MethodName) prog_1_method_38_code (5 : Nat) (Option.some Jvm.ClassFile.FieldType.int)) ∈ lw_all := lw_g (lw_at lw_m6 150 rfl) rfl
theorem q1467 : (Jvm.Cond.methodLink "GrassPark" (326 : Nat) ({ cls := "GrassPark", name := "shortest", desc := "(IIZ)I" } : Jvm.MethodName)) ∈ lw_all := lw_g (lw_at lw_m6 151 rfl) rfl
theorem q1468 : (Jvm.Cond.privateMethod ({ cls := "GrassPark", name := "shortest", desc := "(IIZ)I" } : Jvm.MethodName)) ∈ lw_tbl := lw_at lw_m6 152 rfl
theorem q1469 : (Jvm.Cond.instanceMethod ({ cls := "GrassPark", name := "shortest", desc := "(IIZ)I" } : Jvm.MethodName)) ∈ lw_all := lw_g (lw_at lw_m6 153 rfl) rfl
theorem q1470 : (Jvm.Cond.code ({ cls := "GrassPark", name := "shortest", desc := "(IIZ)I" } : Jvm.MethodName) prog_1_method_37_code (10 : Nat) (Option.some Jvm.ClassFile.FieldType.int)) ∈ lw_all := lw_g (lw_at lw_m6 154 rfl) rfl
theorem q1472 : (Jvm.Cond.instanceMethod ({ cls := "GrassPark", name := "turns", desc := "(IIII)I" } : Jvm.MethodName)) ∈ lw_all := lw_g (lw_at lw_m6 156 rfl) rfl
theorem q1473 : (Jvm.Cond.selects "GrassPark" ({ cls := "GrassPark", name := "turns", desc := "(IIII)I" } : Jvm.MethodName) ({ cls := "GrassPark", name := "turns", desc := "(IIII)I" } : Jvm.MethodName)) ∈ lw_all := lw_g (lw_at lw_m6 157 rfl) rfl
theorem q1474 : (Jvm.Cond.code ({ cls := "GrassPark", name := "turns", desc := "(IIII)I" } : Jvm.MethodName) prog_1_method_39_code (9 : Nat) (Option.some Jvm.ClassFile.FieldType.int)) ∈ lw_all := lw_g (lw_at lw_m6 158 rfl) rfl
theorem q1475 : (Jvm.Cond.methodLink "GrassPark" (330 : Nat) ({ cls := "GrassPark$Habit", name := "drawnBy", desc := "(I)LGrassPark$Habit;" } : Jvm.MethodName)) ∈ lw_all := lw_g (lw_at lw_m6 159 rfl) rfl
theorem q1487 : (Jvm.Cond.instanceMethod ({ cls := "GrassPark", name := "paved", desc := "(IIII)I" } : Jvm.MethodName)) ∈ lw_all := lw_g (lw_at lw_m6 171 rfl) rfl
theorem q1488 : (Jvm.Cond.selects "GrassPark" ({ cls := "GrassPark", name := "paved", desc := "(IIII)I" } : Jvm.MethodName) ({ cls := "GrassPark", name := "paved", desc := "(IIII)I" } : Jvm.MethodName)) ∈ lw_all := lw_g (lw_at lw_m6 172 rfl) rfl
theorem q1489 : (Jvm.Cond.code ({ cls := "GrassPark", name := "paved", desc := "(IIII)I" } : Jvm.MethodName) prog_1_method_42_code (7 : Nat) (Option.some Jvm.ClassFile.FieldType.int)) ∈ lw_all := lw_g (lw_at lw_m6 173 rfl) rfl
theorem q1490 : (Jvm.Cond.methodLink "GrassPark" (334 : Nat) ({ cls := "GrassPark", name := "pave", desc := "(II)V" } : Jvm.MethodName)) ∈ lw_all := lw_g (lw_at lw_m6 174 rfl) rfl
theorem q1491 : (Jvm.Cond.privateMethod ({ cls := "GrassPark", name := "pave", desc := "(II)V" } : Jvm.MethodName)) ∈ lw_tbl := lw_at lw_m6 175 rfl
theorem q1492 : (Jvm.Cond.instanceMethod ({ cls := "GrassPark", name := "pave", desc := "(II)V" } : Jvm.MethodName)) ∈ lw_all := lw_g (lw_at lw_m6 176 rfl) rfl
theorem q1493 : (Jvm.Cond.code ({ cls := "GrassPark", name := "pave", desc := "(II)V" } : Jvm.MethodName) prog_1_method_40_code (6 : Nat) (Option.none : Option Jvm.ClassFile.FieldType)) ∈ lw_all := lw_g (lw_at lw_m6 177 rfl) rfl
theorem q1494 : (Jvm.Cond.methodLink "GrassPark" (337 : Nat) ({ cls := "GrassPark", name := "beyond", desc := "(II)I" } : Jvm.MethodName)) ∈ lw_all := lw_g (lw_at lw_m6 178 rfl) rfl
theorem q1495 : (Jvm.Cond.privateMethod ({ cls := "GrassPark", name := "beyond", desc := "(II)I" } : Jvm.MethodName)) ∈ lw_tbl := lw_at lw_m6 179 rfl
theorem q1496 : (Jvm.Cond.instanceMethod ({ cls := "GrassPark", name := "beyond", desc := "(II)I" } : Jvm.MethodName)) ∈ lw_all := lw_g (lw_at lw_m6 180 rfl) rfl
theorem q1497 : (Jvm.Cond.code ({ cls := "GrassPark", name := "beyond", desc := "(II)I" } : Jvm.MethodName) prog_1_method_41_code (5 : Nat) (Option.some Jvm.ClassFile.FieldType.int)) ∈ lw_all := lw_g (lw_at lw_m6 181 rfl) rfl
theorem q1499 : (Jvm.Cond.instanceMethod ({ cls := "GrassPark", name := "wait", desc := "(II)I" } : Jvm.MethodName)) ∈ lw_all := lw_g (lw_at lw_m6 183 rfl) rfl
theorem q1500 : (Jvm.Cond.selects "GrassPark" ({ cls := "GrassPark", name := "wait", desc := "(II)I" } : Jvm.MethodName) ({ cls := "GrassPark", name := "wait", desc := "(II)I" } : Jvm.MethodName)) ∈ lw_all := lw_g (lw_at lw_m6 184 rfl) rfl
theorem q1501 : (Jvm.Cond.code ({ cls := "GrassPark", name := "wait", desc := "(II)I" } : Jvm.MethodName) prog_1_method_43_code (7 : Nat) (Option.some Jvm.ClassFile.FieldType.int)) ∈ lw_all := lw_g (lw_at lw_m6 185 rfl) rfl
theorem q1503 : (Jvm.Cond.instanceMethod ({ cls := "GrassPark", name := "fences", desc := "(II)I" } : Jvm.MethodName)) ∈ lw_all := lw_g (lw_at lw_m6 187 rfl) rfl
theorem q1504 : (Jvm.Cond.selects "GrassPark" ({ cls := "GrassPark", name := "fences", desc := "(II)I" } : Jvm.MethodName) ({ cls := "GrassPark", name := "fences", desc := "(II)I" } : Jvm.MethodName)) ∈ lw_all := lw_g (lw_at lw_m6 188 rfl) rfl
theorem q1505 : (Jvm.Cond.code ({ cls := "GrassPark", name := "fences", desc := "(II)I" } : Jvm.MethodName) prog_1_method_46_code (7 : Nat) (Option.some Jvm.ClassFile.FieldType.int)) ∈ lw_all := lw_g (lw_at lw_m6 189 rfl) rfl
theorem q1506 : (Jvm.Cond.methodLink "GrassPark" (346 : Nat) ({ cls := "GrassPark", name := "isSpared", desc := "(IIII)Z" } : Jvm.MethodName)) ∈ lw_all := lw_g (lw_at lw_m6 190 rfl) rfl
theorem q1507 : (Jvm.Cond.privateMethod ({ cls := "GrassPark", name := "isSpared", desc := "(IIII)Z" } : Jvm.MethodName)) ∈ lw_tbl := lw_at lw_m6 191 rfl
theorem q1508 : (Jvm.Cond.instanceMethod ({ cls := "GrassPark", name := "isSpared", desc := "(IIII)Z" } : Jvm.MethodName)) ∈ lw_all := lw_g (lw_at lw_m6 192 rfl) rfl
theorem q1509 : (Jvm.Cond.code ({ cls := "GrassPark", name := "isSpared", desc := "(IIII)Z" } : Jvm.MethodName) prog_1_method_44_code (7 : Nat) (Option.some Jvm.ClassFile.FieldType.boolean)) ∈ lw_all := lw_g (lw_at lw_m6 193 rfl) rfl
theorem q1510 : (Jvm.Cond.methodLink "GrassPark" (340 : Nat) ({ cls := "GrassPark$Ground", name := "tick", desc := "(LGrassPark$Law;[LGrassPark$Habit;)V" } : Jvm.MethodName)) ∈ lw_all := lw_g (lw_at lw_m6 194 rfl) rfl
theorem q1511 : (Jvm.Cond.methodLink "GrassPark" (349 : Nat) ({ cls := "GrassPark", name := "fence", desc := "(III)I" } : Jvm.MethodName)) ∈ lw_all := lw_g (lw_at lw_m6 195 rfl) rfl
theorem q1512 : (Jvm.Cond.privateMethod ({ cls := "GrassPark", name := "fence", desc := "(III)I" } : Jvm.MethodName)) ∈ lw_tbl := lw_at lw_m6 196 rfl
theorem q1513 : (Jvm.Cond.instanceMethod ({ cls := "GrassPark", name := "fence", desc := "(III)I" } : Jvm.MethodName)) ∈ lw_all := lw_g (lw_at lw_m6 197 rfl) rfl
theorem q1514 : (Jvm.Cond.code ({ cls := "GrassPark", name := "fence", desc := "(III)I" } : Jvm.MethodName) prog_1_method_45_code (4 : Nat) (Option.some Jvm.ClassFile.FieldType.int)) ∈ lw_all := lw_g (lw_at lw_m6 198 rfl) rfl
theorem q1516 : (Jvm.Cond.instanceMethod ({ cls := "GrassPark", name := "fenceAt", desc := "(I)I" } : Jvm.MethodName)) ∈ lw_all := lw_g (lw_at lw_m6 200 rfl) rfl
theorem q1517 : (Jvm.Cond.selects "GrassPark" ({ cls := "GrassPark", name := "fenceAt", desc := "(I)I" } : Jvm.MethodName) ({ cls := "GrassPark", name := "fenceAt", desc := "(I)I" } : Jvm.MethodName)) ∈ lw_all := lw_g (lw_at lw_m6 201 rfl) rfl
theorem q1518 : (Jvm.Cond.code ({ cls := "GrassPark", name := "fenceAt", desc := "(I)I" } : Jvm.MethodName) prog_1_method_47_code (2 : Nat) (Option.some Jvm.ClassFile.FieldType.int)) ∈ lw_all := lw_g (lw_at lw_m6 202 rfl) rfl
theorem q1520 : (Jvm.Cond.instanceMethod ({ cls := "GrassPark", name := "lasts", desc := "(IIII)I" } : Jvm.MethodName)) ∈ lw_all := lw_g (lw_at lw_m6 204 rfl) rfl
theorem q1521 : (Jvm.Cond.selects "GrassPark" ({ cls := "GrassPark", name := "lasts", desc := "(IIII)I" } : Jvm.MethodName) ({ cls := "GrassPark", name := "lasts", desc := "(IIII)I" } : Jvm.MethodName)) ∈ lw_all := lw_g (lw_at lw_m6 205 rfl) rfl
theorem q1522 : (Jvm.Cond.code ({ cls := "GrassPark", name := "lasts", desc := "(IIII)I" } : Jvm.MethodName) prog_1_method_48_code (7 : Nat) (Option.some Jvm.ClassFile.FieldType.int)) ∈ lw_all := lw_g (lw_at lw_m6 206 rfl) rfl
theorem q1524 : (Jvm.Cond.instanceMethod ({ cls := "GrassPark", name := "way", desc := "(III)I" } : Jvm.MethodName)) ∈ lw_all := lw_g (lw_at lw_m6 208 rfl) rfl
theorem q1525 : (Jvm.Cond.selects "GrassPark" ({ cls := "GrassPark", name := "way", desc := "(III)I" } : Jvm.MethodName) ({ cls := "GrassPark", name := "way", desc := "(III)I" } : Jvm.MethodName)) ∈ lw_all := lw_g (lw_at lw_m6 209 rfl) rfl
theorem q1526 : (Jvm.Cond.code ({ cls := "GrassPark", name := "way", desc := "(III)I" } : Jvm.MethodName) prog_1_method_50_code (5 : Nat) (Option.some Jvm.ClassFile.FieldType.int)) ∈ lw_all := lw_g (lw_at lw_m6 210 rfl) rfl
theorem q1527 : (Jvm.Cond.methodLink "GrassPark" (369 : Nat) ({ cls := "GrassPark", name := "goes", desc := "(III)Z" } : Jvm.MethodName)) ∈ lw_all := lw_g (lw_at lw_m6 211 rfl) rfl
theorem q1528 : (Jvm.Cond.privateMethod ({ cls := "GrassPark", name := "goes", desc := "(III)Z" } : Jvm.MethodName)) ∈ lw_tbl := lw_at lw_m6 212 rfl
theorem q1529 : (Jvm.Cond.instanceMethod ({ cls := "GrassPark", name := "goes", desc := "(III)Z" } : Jvm.MethodName)) ∈ lw_all := lw_g (lw_at lw_m6 213 rfl) rfl
theorem q1530 : (Jvm.Cond.code ({ cls := "GrassPark", name := "goes", desc := "(III)Z" } : Jvm.MethodName) prog_1_method_49_code (7 : Nat) (Option.some Jvm.ClassFile.FieldType.boolean)) ∈ lw_all := lw_g (lw_at lw_m6 214 rfl) rfl
theorem q1531 : (Jvm.Cond.classLink "GrassPark" (4 : Nat) "java/util/ArrayList") ∈ lw_all := lw_g (lw_at lw_m6 215 rfl) rfl
theorem q1532 : (Jvm.Cond.methodLink "GrassPark" (353 : Nat) ({ cls := "java/util/ArrayList", name := "<init>", desc := "()V" } : Jvm.MethodName)) ∈ lw_all := lw_g (lw_at lw_m6 216 rfl) rfl
theorem q1533 : (Jvm.Cond.methodLinkNest "GrassPark" (354 : Nat) ({ cls := "GrassPark$Walker", name := "<init>", desc := "()V" } : Jvm.MethodName) "GrassPark") ∈ lw_tbl := lw_at lw_m6 217 rfl
theorem q1534 : (Jvm.Cond.methodLink "GrassPark" (355 : Nat) ({ cls := "GrassPark$Walker", name := "begin", desc := "(IIII)LGrassPark$Walker;" } : Jvm.MethodName)) ∈ lw_all := lw_g (lw_at lw_m6 218 rfl) rfl
theorem q1535 : (Jvm.Cond.methodLinkNest "GrassPark" (365 : Nat) ({ cls := "GrassPark$Ground", name := "steps", desc := "(LGrassPark$Walker;LGrassPark$Habit;LGrassPark$Law;)Z" } : Jvm.MethodName) "GrassPark") ∈ lw_tbl := lw_at lw_m6 219 rfl
theorem q1537 : (Jvm.Cond.instanceMethod ({ cls := "GrassPark", name := "wayAt", desc := "(I)I" } : Jvm.MethodName)) ∈ lw_all := lw_g (lw_at lw_m6 221 rfl) rfl
theorem q1538 : (Jvm.Cond.selects "GrassPark" ({ cls := "GrassPark", name := "wayAt", desc := "(I)I" } : Jvm.MethodName) ({ cls := "GrassPark", name := "wayAt", desc := "(I)I" } : Jvm.MethodName)) ∈ lw_all := lw_g (lw_at lw_m6 222 rfl) rfl
theorem q1539 : (Jvm.Cond.code ({ cls := "GrassPark", name := "wayAt", desc := "(I)I" } : Jvm.MethodName) prog_1_method_51_code (2 : Nat) (Option.some Jvm.ClassFile.FieldType.int)) ∈ lw_all := lw_g (lw_at lw_m6 223 rfl) rfl
theorem q1541 : (Jvm.Cond.instanceMethod ({ cls := "GrassPark", name := "read", desc := "()I" } : Jvm.MethodName)) ∈ lw_all := lw_g (lw_at lw_m6 225 rfl) rfl
theorem q1542 : (Jvm.Cond.selects "GrassPark" ({ cls := "GrassPark", name := "read", desc := "()I" } : Jvm.MethodName) ({ cls := "GrassPark", name := "read", desc := "()I" } : Jvm.MethodName)) ∈ lw_all := lw_g (lw_at lw_m6 226 rfl) rfl
theorem q1543 : (Jvm.Cond.code ({ cls := "GrassPark", name := "read", desc := "()I" } : Jvm.MethodName) prog_1_method_52_code (5 : Nat) (Option.some Jvm.ClassFile.FieldType.int)) ∈ lw_all := lw_g (lw_at lw_m6 227 rfl) rfl
theorem q1544 : (Jvm.Cond.methodLink "GrassPark" (375 : Nat) ({ cls := "GrassPark", name := "choose", desc := "(II)V" } : Jvm.MethodName)) ∈ lw_all := lw_g (lw_at lw_m6 228 rfl) rfl
theorem q1545 : (Jvm.Cond.privateMethod ({ cls := "GrassPark", name := "choose", desc := "(II)V" } : Jvm.MethodName)) ∈ lw_tbl := lw_at lw_m6 229 rfl
theorem q1546 : (Jvm.Cond.instanceMethod ({ cls := "GrassPark", name := "choose", desc := "(II)V" } : Jvm.MethodName)) ∈ lw_all := lw_g (lw_at lw_m6 230 rfl) rfl
theorem q1547 : (Jvm.Cond.code ({ cls := "GrassPark", name := "choose", desc := "(II)V" } : Jvm.MethodName) prog_1_method_53_code (7 : Nat) (Option.none : Option Jvm.ClassFile.FieldType)) ∈ lw_all := lw_g (lw_at lw_m6 231 rfl) rfl
theorem q1548 : (Jvm.Cond.methodLink "GrassPark" (381 : Nat) ({ cls := "java/lang/Math", name := "max", desc := "(II)I" } : Jvm.MethodName)) ∈ lw_all := lw_g (lw_at lw_m6 232 rfl) rfl
theorem q1550 : (Jvm.Cond.instanceMethod ({ cls := "GrassPark", name := "reads", desc := "(II)I" } : Jvm.MethodName)) ∈ lw_all := lw_g (lw_at lw_m6 234 rfl) rfl
theorem q1551 : (Jvm.Cond.selects "GrassPark" ({ cls := "GrassPark", name := "reads", desc := "(II)I" } : Jvm.MethodName) ({ cls := "GrassPark", name := "reads", desc := "(II)I" } : Jvm.MethodName)) ∈ lw_all := lw_g (lw_at lw_m6 235 rfl) rfl
theorem q1552 : (Jvm.Cond.code ({ cls := "GrassPark", name := "reads", desc := "(II)I" } : Jvm.MethodName) prog_1_method_54_code (3 : Nat) (Option.some Jvm.ClassFile.FieldType.int)) ∈ lw_all := lw_g (lw_at lw_m6 236 rfl) rfl
theorem q1554 : (Jvm.Cond.instanceMethod ({ cls := "GrassPark", name := "fits", desc := "(II)I" } : Jvm.MethodName)) ∈ lw_all := lw_g (lw_at lw_m6 238 rfl) rfl
theorem q1555 : (Jvm.Cond.selects "GrassPark" ({ cls := "GrassPark", name := "fits", desc := "(II)I" } : Jvm.MethodName) ({ cls := "GrassPark", name := "fits", desc := "(II)I" } : Jvm.MethodName)) ∈ lw_all := lw_g (lw_at lw_m6 239 rfl) rfl
theorem q1556 : (Jvm.Cond.code ({ cls := "GrassPark", name := "fits", desc := "(II)I" } : Jvm.MethodName) prog_1_method_55_code (8 : Nat) (Option.some Jvm.ClassFile.FieldType.int)) ∈ lw_all := lw_g (lw_at lw_m7 0 rfl) rfl
theorem q1558 : (Jvm.Cond.instanceMethod ({ cls := "GrassPark", name := "image", desc := "(I)Z" } : Jvm.MethodName)) ∈ lw_all := lw_g (lw_at lw_m7 2 rfl) rfl
theorem q1559 : (Jvm.Cond.selects "GrassPark" ({ cls := "GrassPark", name := "image", desc := "(I)Z" } : Jvm.MethodName) ({ cls := "GrassPark", name := "image", desc := "(I)Z" } : Jvm.MethodName)) ∈ lw_all := lw_g (lw_at lw_m7 3 rfl) rfl
theorem q1560 : (Jvm.Cond.code ({ cls := "GrassPark", name := "image", desc := "(I)Z" } : Jvm.MethodName) prog_1_method_56_code (2 : Nat) (Option.some Jvm.ClassFile.FieldType.boolean)) ∈ lw_all := lw_g (lw_at lw_m7 4 rfl) rfl
theorem q1562 : (Jvm.Cond.instanceMethod ({ cls := "GrassPark", name := "restore", desc := "(I)Z" } : Jvm.MethodName)) ∈ lw_all := lw_g (lw_at lw_m7 6 rfl) rfl
theorem q1563 : (Jvm.Cond.selects "GrassPark" ({ cls := "GrassPark", name := "restore", desc := "(I)Z" } : Jvm.MethodName) ({ cls := "GrassPark", name := "restore", desc := "(I)Z" } : Jvm.MethodName)) ∈ lw_all := lw_g (lw_at lw_m7 7 rfl) rfl
theorem q1564 : (Jvm.Cond.code ({ cls := "GrassPark", name := "restore", desc := "(I)Z" } : Jvm.MethodName) prog_1_method_57_code (2 : Nat) (Option.some Jvm.ClassFile.FieldType.boolean)) ∈ lw_all := lw_g (lw_at lw_m7 8 rfl) rfl
theorem q1566 : (Jvm.Cond.instanceMethod ({ cls := "GrassPark", name := "count", desc := "(I)I" } : Jvm.MethodName)) ∈ lw_all := lw_g (lw_at lw_m7 10 rfl) rfl
theorem q1567 : (Jvm.Cond.selects "GrassPark" ({ cls := "GrassPark", name := "count", desc := "(I)I" } : Jvm.MethodName) ({ cls := "GrassPark", name := "count", desc := "(I)I" } : Jvm.MethodName)) ∈ lw_all := lw_g (lw_at lw_m7 11 rfl) rfl
theorem q1568 : (Jvm.Cond.code ({ cls := "GrassPark", name := "count", desc := "(I)I" } : Jvm.MethodName) prog_1_method_58_code (5 : Nat) (Option.some Jvm.ClassFile.FieldType.int)) ∈ lw_all := lw_g (lw_at lw_m7 12 rfl) rfl
theorem q1574 : (Jvm.Cond.instanceMethod ({ cls := "GrassPark", name := "cell", desc := "(II)I" } : Jvm.MethodName)) ∈ lw_all := lw_g (lw_at lw_m7 18 rfl) rfl
theorem q1575 : (Jvm.Cond.selects "GrassPark" ({ cls := "GrassPark", name := "cell", desc := "(II)I" } : Jvm.MethodName) ({ cls := "GrassPark", name := "cell", desc := "(II)I" } : Jvm.MethodName)) ∈ lw_all := lw_g (lw_at lw_m7 19 rfl) rfl
theorem q1576 : (Jvm.Cond.code ({ cls := "GrassPark", name := "cell", desc := "(II)I" } : Jvm.MethodName) prog_1_method_26_code (4 : Nat) (Option.some Jvm.ClassFile.FieldType.int)) ∈ lw_all := lw_g (lw_at lw_m7 20 rfl) rfl
theorem q1577 : (Jvm.Cond.methodLink "GrassPark" (259 : Nat) ({ cls := "GrassPark", name := "need", desc := "(Z)V" } : Jvm.MethodName)) ∈ lw_all := lw_g (lw_at lw_m7 21 rfl) rfl
theorem q1578 : (Jvm.Cond.static ({ cls := "GrassPark", name := "need", desc := "(Z)V" } : Jvm.MethodName)) ∈ lw_all := lw_g (lw_at lw_m7 22 rfl) rfl
theorem q1579 : (Jvm.Cond.code ({ cls := "GrassPark", name := "need", desc := "(Z)V" } : Jvm.MethodName) prog_1_method_25_code (1 : Nat) (Option.none : Option Jvm.ClassFile.FieldType)) ∈ lw_all := lw_g (lw_at lw_m7 23 rfl) rfl
theorem q1580 : (Jvm.Cond.classLink "GrassPark" (256 : Nat) "java/util/NoSuchElementException") ∈ lw_all := lw_g (lw_at lw_m7 24 rfl) rfl
theorem q1591 : (Jvm.Cond.methodLink "GrassPark" (258 : Nat) ({ cls := "java/util/NoSuchElementException", name := "<init>", desc := "()V" } : Jvm.MethodName)) ∈ lw_all := lw_g (lw_at lw_m7 35 rfl) rfl
theorem q1600 : (Jvm.Cond.methodLink "GrassPark" (273 : Nat) ({ cls := "GrassPark$Ground", name := "isMuddy", desc := "(LGrassPark$Law;I)Z" } : Jvm.MethodName)) ∈ lw_all := lw_g (lw_at lw_m7 44 rfl) rfl
theorem q2285 : (Jvm.Cond.castable "GrassPark" "java/lang/Object") ∈ lw_tbl := lw_at lw_m10 9 rfl
theorem in_X1 : ∀ w ∈ wsX10, w ∈ lw_all := lw_in wsX10 [350, 352, 354, 356, 358, 360, 362, 364, 366, 368, 370, 372, 374, 376, 378, 380, 382, 384, 386, 388, 390, 392, 394] (by decide +kernel) (by decide +kernel)
/-! GrassPark$Ground -/
set_option maxRecDepth 100000
def RX2 : String := "GrassPark$Ground"
def TX2 : u_T := fun k => match k with
  | 0 => ("GrassPark$Ground", "w", "I", false)
  | 1 => ("GrassPark$Ground", "h", "I", false)
  | 2 => ("GrassPark$Ground", "tick", "I", false)
  | 3 => ("GrassPark$Ground", "arrived", "I", false)
  | 4 => ("GrassPark$Ground", "lost", "I", false)
  | 5 => ("GrassPark$Ground", "turned", "I", false)
  | 6 => ("GrassPark$Ground", "kind", "[I", true)
  | 7 => ("GrassPark$Ground", "height", "[I", true)
  | 8 => ("GrassPark$Ground", "wear", "[I", true)
  | 9 => ("GrassPark$Ground", "wet", "[I", true)
  | 10 => ("GrassPark$Ground", "trod", "[I", true)
  | 11 => ("GrassPark$Ground", "snow", "[I", true)
  | 12 => ("GrassPark$Ground", "doors", "[I", true)
  | 13 => ("GrassPark$Ground", "sign", "[Z", true)
  | 14 => ("GrassPark$Ground", "doorMany", "I", false)
  | 15 => ("GrassPark$Ground", "wishes", "Ljava/util/ArrayList;", true)
  | 16 => ("GrassPark$Ground", "walkers", "Ljava/util/ArrayList;", false)
  | _ => ("GrassPark$Ground", "spare", "Ljava/util/ArrayList;", true)
def tyX2 : Nat → FieldType := fun k => match k with
  | 0 => .int
  | 1 => .int
  | 2 => .int
  | 3 => .int
  | 4 => .int
  | 5 => .int
  | 6 => .array .int
  | 7 => .array .int
  | 8 => .array .int
  | 9 => .array .int
  | 10 => .array .int
  | 11 => .array .int
  | 12 => .array .int
  | 13 => .array .boolean
  | 14 => .int
  | 15 => .object "java/util/ArrayList"
  | 16 => .object "java/util/ArrayList"
  | _ => .object "java/util/ArrayList"
abbrev wsX20 : List Cond := u_ws RX2 TX2 18
set_option maxRecDepth 100000 in
theorem nmX2 : ∀ a, a < 18 → ∀ b, b < 18 → a ≠ b → (TX2 a).2.1 ≠ (TX2 b).2.1 := by decide +kernel
set_option maxRecDepth 100000 in
theorem tyX2_ok : ∀ k, k < 18 → parseFieldDescriptor (TX2 k).2.2.1 = some (tyX2 k) := by decide +kernel
abbrev cX2_init : ByteArray := prog_4_method_1_code
def yX2_init : MethodName := ⟨RX2, "<init>", "()V"⟩
def dkwX2_init_5 : List UInt8 := [181, 0, 54, 177]
abbrev dktX2_init_5 : List UInt8 := dkwX2_init_5 ++ []
def dkwX2_init_4 : List UInt8 := [181, 0, 47, 42, 187, 0, 44, 89, 183, 0, 46, 181, 0, 51, 42, 187, 0, 44, 89, 183, 0, 46]
abbrev dktX2_init_4 : List UInt8 := dkwX2_init_4 ++ dktX2_init_5
def dkwX2_init_3 : List UInt8 := [188, 10, 181, 0, 37, 42, 17, 1, 0, 188, 4, 181, 0, 40, 42, 187, 0, 44, 89, 183, 0, 46]
abbrev dktX2_init_3 : List UInt8 := dkwX2_init_3 ++ dktX2_init_4
def dkwX2_init_2 : List UInt8 := [181, 0, 28, 42, 17, 1, 0, 188, 10, 181, 0, 31, 42, 17, 1, 0, 188, 10, 181, 0, 34, 42, 16, 9]
abbrev dktX2_init_2 : List UInt8 := dkwX2_init_2 ++ dktX2_init_3
def dkwX2_init_1 : List UInt8 := [17, 1, 0, 188, 10, 181, 0, 22, 42, 17, 1, 0, 188, 10, 181, 0, 25, 42, 17, 1, 0, 188, 10]
abbrev dktX2_init_1 : List UInt8 := dkwX2_init_1 ++ dktX2_init_2
def dkwX2_init_0 : List UInt8 := [42, 183, 0, 3, 42, 7, 181, 0, 9, 42, 7, 181, 0, 15, 42, 17, 1, 0, 188, 10, 181, 0, 18, 42]
abbrev dktX2_init_0 : List UInt8 := dkwX2_init_0 ++ dktX2_init_1
theorem dksX2_init_0 : cX2_init.data.toList.drop 0 = dktX2_init_0 := by decide +kernel
theorem dksX2_init_1 : cX2_init.data.toList.drop 24 = dktX2_init_1 := dk_seg dksX2_init_0 24 rfl rfl
theorem dksX2_init_2 : cX2_init.data.toList.drop 47 = dktX2_init_2 := dk_seg dksX2_init_1 23 rfl rfl
theorem dksX2_init_3 : cX2_init.data.toList.drop 71 = dktX2_init_3 := dk_seg dksX2_init_2 24 rfl rfl
theorem dksX2_init_4 : cX2_init.data.toList.drop 93 = dktX2_init_4 := dk_seg dksX2_init_3 22 rfl rfl
theorem dksX2_init_5 : cX2_init.data.toList.drop 115 = dktX2_init_5 := dk_seg dksX2_init_4 22 rfl rfl
theorem dX2_init_0 : decode cX2_init 0 = .ok (.aload_n 0, 1) := dk_42 (dk_at dksX2_init_0 0 rfl rfl)
theorem dX2_init_1 : decode cX2_init 1 = .ok (.invokespecial 3, 3) := dk_183 0 3 (dk_at dksX2_init_0 1 rfl rfl)
theorem dX2_init_4 : decode cX2_init 4 = .ok (.aload_n 0, 1) := dk_42 (dk_at dksX2_init_0 4 rfl rfl)
theorem dX2_init_5 : decode cX2_init 5 = .ok (.iconst 4, 1) := dk_7 (dk_at dksX2_init_0 5 rfl rfl)
theorem dX2_init_6 : decode cX2_init 6 = .ok (.putfield 9, 3) := dk_181 0 9 (dk_at dksX2_init_0 6 rfl rfl)
theorem dX2_init_9 : decode cX2_init 9 = .ok (.aload_n 0, 1) := dk_42 (dk_at dksX2_init_0 9 rfl rfl)
theorem dX2_init_10 : decode cX2_init 10 = .ok (.iconst 4, 1) := dk_7 (dk_at dksX2_init_0 10 rfl rfl)
theorem dX2_init_11 : decode cX2_init 11 = .ok (.putfield 15, 3) := dk_181 0 15 (dk_at dksX2_init_0 11 rfl rfl)
theorem dX2_init_14 : decode cX2_init 14 = .ok (.aload_n 0, 1) := dk_42 (dk_at dksX2_init_0 14 rfl rfl)
theorem dX2_init_15 : decode cX2_init 15 = .ok (.sipush 256, 3) := dk_17 1 0 (dk_at dksX2_init_0 15 rfl rfl)
theorem dX2_init_18 : decode cX2_init 18 = .ok (.newarray .int, 2) := dk_188_10 (dk_at dksX2_init_0 18 rfl rfl)
theorem dX2_init_20 : decode cX2_init 20 = .ok (.putfield 18, 3) := dk_181 0 18 (dk_at dksX2_init_0 20 rfl rfl)
theorem dX2_init_23 : decode cX2_init 23 = .ok (.aload_n 0, 1) := dk_42 (dk_at dksX2_init_0 23 rfl rfl)
theorem dX2_init_24 : decode cX2_init 24 = .ok (.sipush 256, 3) := dk_17 1 0 (dk_at dksX2_init_1 0 rfl rfl)
theorem dX2_init_27 : decode cX2_init 27 = .ok (.newarray .int, 2) := dk_188_10 (dk_at dksX2_init_1 3 rfl rfl)
theorem dX2_init_29 : decode cX2_init 29 = .ok (.putfield 22, 3) := dk_181 0 22 (dk_at dksX2_init_1 5 rfl rfl)
theorem dX2_init_32 : decode cX2_init 32 = .ok (.aload_n 0, 1) := dk_42 (dk_at dksX2_init_1 8 rfl rfl)
theorem dX2_init_33 : decode cX2_init 33 = .ok (.sipush 256, 3) := dk_17 1 0 (dk_at dksX2_init_1 9 rfl rfl)
theorem dX2_init_36 : decode cX2_init 36 = .ok (.newarray .int, 2) := dk_188_10 (dk_at dksX2_init_1 12 rfl rfl)
theorem dX2_init_38 : decode cX2_init 38 = .ok (.putfield 25, 3) := dk_181 0 25 (dk_at dksX2_init_1 14 rfl rfl)
theorem dX2_init_41 : decode cX2_init 41 = .ok (.aload_n 0, 1) := dk_42 (dk_at dksX2_init_1 17 rfl rfl)
theorem dX2_init_42 : decode cX2_init 42 = .ok (.sipush 256, 3) := dk_17 1 0 (dk_at dksX2_init_1 18 rfl rfl)
theorem dX2_init_45 : decode cX2_init 45 = .ok (.newarray .int, 2) := dk_188_10 (dk_at dksX2_init_1 21 rfl rfl)
theorem dX2_init_47 : decode cX2_init 47 = .ok (.putfield 28, 3) := dk_181 0 28 (dk_at dksX2_init_2 0 rfl rfl)
theorem dX2_init_50 : decode cX2_init 50 = .ok (.aload_n 0, 1) := dk_42 (dk_at dksX2_init_2 3 rfl rfl)
theorem dX2_init_51 : decode cX2_init 51 = .ok (.sipush 256, 3) := dk_17 1 0 (dk_at dksX2_init_2 4 rfl rfl)
theorem dX2_init_54 : decode cX2_init 54 = .ok (.newarray .int, 2) := dk_188_10 (dk_at dksX2_init_2 7 rfl rfl)
theorem dX2_init_56 : decode cX2_init 56 = .ok (.putfield 31, 3) := dk_181 0 31 (dk_at dksX2_init_2 9 rfl rfl)
theorem dX2_init_59 : decode cX2_init 59 = .ok (.aload_n 0, 1) := dk_42 (dk_at dksX2_init_2 12 rfl rfl)
theorem dX2_init_60 : decode cX2_init 60 = .ok (.sipush 256, 3) := dk_17 1 0 (dk_at dksX2_init_2 13 rfl rfl)
theorem dX2_init_63 : decode cX2_init 63 = .ok (.newarray .int, 2) := dk_188_10 (dk_at dksX2_init_2 16 rfl rfl)
theorem dX2_init_65 : decode cX2_init 65 = .ok (.putfield 34, 3) := dk_181 0 34 (dk_at dksX2_init_2 18 rfl rfl)
theorem dX2_init_68 : decode cX2_init 68 = .ok (.aload_n 0, 1) := dk_42 (dk_at dksX2_init_2 21 rfl rfl)
theorem dX2_init_69 : decode cX2_init 69 = .ok (.bipush 9, 2) := dk_16 9 (dk_at dksX2_init_2 22 rfl rfl)
theorem dX2_init_71 : decode cX2_init 71 = .ok (.newarray .int, 2) := dk_188_10 (dk_at dksX2_init_3 0 rfl rfl)
theorem dX2_init_73 : decode cX2_init 73 = .ok (.putfield 37, 3) := dk_181 0 37 (dk_at dksX2_init_3 2 rfl rfl)
theorem dX2_init_76 : decode cX2_init 76 = .ok (.aload_n 0, 1) := dk_42 (dk_at dksX2_init_3 5 rfl rfl)
theorem dX2_init_77 : decode cX2_init 77 = .ok (.sipush 256, 3) := dk_17 1 0 (dk_at dksX2_init_3 6 rfl rfl)
theorem dX2_init_80 : decode cX2_init 80 = .ok (.newarray .boolean, 2) := dk_188_4 (dk_at dksX2_init_3 9 rfl rfl)
theorem dX2_init_82 : decode cX2_init 82 = .ok (.putfield 40, 3) := dk_181 0 40 (dk_at dksX2_init_3 11 rfl rfl)
theorem dX2_init_85 : decode cX2_init 85 = .ok (.aload_n 0, 1) := dk_42 (dk_at dksX2_init_3 14 rfl rfl)
theorem dX2_init_86 : decode cX2_init 86 = .ok (.new 44, 3) := dk_187 0 44 (dk_at dksX2_init_3 15 rfl rfl)
theorem dX2_init_89 : decode cX2_init 89 = .ok (.dup, 1) := dk_89 (dk_at dksX2_init_3 18 rfl rfl)
theorem dX2_init_90 : decode cX2_init 90 = .ok (.invokespecial 46, 3) := dk_183 0 46 (dk_at dksX2_init_3 19 rfl rfl)
theorem dX2_init_93 : decode cX2_init 93 = .ok (.putfield 47, 3) := dk_181 0 47 (dk_at dksX2_init_4 0 rfl rfl)
theorem dX2_init_96 : decode cX2_init 96 = .ok (.aload_n 0, 1) := dk_42 (dk_at dksX2_init_4 3 rfl rfl)
theorem dX2_init_97 : decode cX2_init 97 = .ok (.new 44, 3) := dk_187 0 44 (dk_at dksX2_init_4 4 rfl rfl)
theorem dX2_init_100 : decode cX2_init 100 = .ok (.dup, 1) := dk_89 (dk_at dksX2_init_4 7 rfl rfl)
theorem dX2_init_101 : decode cX2_init 101 = .ok (.invokespecial 46, 3) := dk_183 0 46 (dk_at dksX2_init_4 8 rfl rfl)
theorem dX2_init_104 : decode cX2_init 104 = .ok (.putfield 51, 3) := dk_181 0 51 (dk_at dksX2_init_4 11 rfl rfl)
theorem dX2_init_107 : decode cX2_init 107 = .ok (.aload_n 0, 1) := dk_42 (dk_at dksX2_init_4 14 rfl rfl)
theorem dX2_init_108 : decode cX2_init 108 = .ok (.new 44, 3) := dk_187 0 44 (dk_at dksX2_init_4 15 rfl rfl)
theorem dX2_init_111 : decode cX2_init 111 = .ok (.dup, 1) := dk_89 (dk_at dksX2_init_4 18 rfl rfl)
theorem dX2_init_112 : decode cX2_init 112 = .ok (.invokespecial 46, 3) := dk_183 0 46 (dk_at dksX2_init_4 19 rfl rfl)
theorem dX2_init_115 : decode cX2_init 115 = .ok (.putfield 54, 3) := dk_181 0 54 (dk_at dksX2_init_5 0 rfl rfl)
theorem dX2_init_118 : decode cX2_init 118 = .ok (.return_, 1) := dk_177 (dk_at dksX2_init_5 3 rfl rfl)
abbrev cX2_isCell : ByteArray := prog_4_method_6_code
def yX2_isCell : MethodName := ⟨RX2, "isCell", "(I)Z"⟩
def dkwX2_isCell_0 : List UInt8 := [27, 3, 42, 182, 0, 121, 4, 100, 184, 0, 124, 172]
abbrev dktX2_isCell_0 : List UInt8 := dkwX2_isCell_0 ++ []
theorem dksX2_isCell_0 : cX2_isCell.data.toList.drop 0 = dktX2_isCell_0 := by decide +kernel
theorem dX2_isCell_0 : decode cX2_isCell 0 = .ok (.iload_n 1, 1) := dk_27 (dk_at dksX2_isCell_0 0 rfl rfl)
theorem dX2_isCell_1 : decode cX2_isCell 1 = .ok (.iconst 0, 1) := dk_3 (dk_at dksX2_isCell_0 1 rfl rfl)
theorem dX2_isCell_2 : decode cX2_isCell 2 = .ok (.aload_n 0, 1) := dk_42 (dk_at dksX2_isCell_0 2 rfl rfl)
theorem dX2_isCell_3 : decode cX2_isCell 3 = .ok (.invokevirtual 121, 3) := dk_182 0 121 (dk_at dksX2_isCell_0 3 rfl rfl)
theorem dX2_isCell_6 : decode cX2_isCell 6 = .ok (.iconst 1, 1) := dk_4 (dk_at dksX2_isCell_0 6 rfl rfl)
theorem dX2_isCell_7 : decode cX2_isCell 7 = .ok (.isub, 1) := dk_100 (dk_at dksX2_isCell_0 7 rfl rfl)
theorem dX2_isCell_8 : decode cX2_isCell 8 = .ok (.invokestatic 124, 3) := dk_184 0 124 (dk_at dksX2_isCell_0 8 rfl rfl)
theorem dX2_isCell_11 : decode cX2_isCell 11 = .ok (.ireturn, 1) := dk_172 (dk_at dksX2_isCell_0 11 rfl rfl)
abbrev cX2_cells : ByteArray := prog_4_method_5_code
def yX2_cells : MethodName := ⟨RX2, "cells", "()I"⟩
def dkwX2_cells_0 : List UInt8 := [42, 180, 0, 9, 42, 180, 0, 15, 104, 172]
abbrev dktX2_cells_0 : List UInt8 := dkwX2_cells_0 ++ []
theorem dksX2_cells_0 : cX2_cells.data.toList.drop 0 = dktX2_cells_0 := by decide +kernel
theorem dX2_cells_0 : decode cX2_cells 0 = .ok (.aload_n 0, 1) := dk_42 (dk_at dksX2_cells_0 0 rfl rfl)
theorem dX2_cells_1 : decode cX2_cells 1 = .ok (.getfield 9, 3) := dk_180 0 9 (dk_at dksX2_cells_0 1 rfl rfl)
theorem dX2_cells_4 : decode cX2_cells 4 = .ok (.aload_n 0, 1) := dk_42 (dk_at dksX2_cells_0 4 rfl rfl)
theorem dX2_cells_5 : decode cX2_cells 5 = .ok (.getfield 15, 3) := dk_180 0 15 (dk_at dksX2_cells_0 5 rfl rfl)
theorem dX2_cells_8 : decode cX2_cells 8 = .ok (.imul, 1) := dk_104 (dk_at dksX2_cells_0 8 rfl rfl)
theorem dX2_cells_9 : decode cX2_cells 9 = .ok (.ireturn, 1) := dk_172 (dk_at dksX2_cells_0 9 rfl rfl)
abbrev cX2_isFree : ByteArray := prog_4_method_7_code
def yX2_isFree : MethodName := ⟨RX2, "isFree", "(I)Z"⟩
def dkwX2_isFree_1 : List UInt8 := [167, 0, 4, 3, 172]
abbrev dktX2_isFree_1 : List UInt8 := dkwX2_isFree_1 ++ []
def dkwX2_isFree_0 : List UInt8 := [42, 180, 0, 18, 27, 46, 6, 159, 0, 18, 42, 180, 0, 18, 27, 46, 16, 6, 159, 0, 7, 4]
abbrev dktX2_isFree_0 : List UInt8 := dkwX2_isFree_0 ++ dktX2_isFree_1
theorem dksX2_isFree_0 : cX2_isFree.data.toList.drop 0 = dktX2_isFree_0 := by decide +kernel
theorem dksX2_isFree_1 : cX2_isFree.data.toList.drop 22 = dktX2_isFree_1 := dk_seg dksX2_isFree_0 22 rfl rfl
theorem dX2_isFree_0 : decode cX2_isFree 0 = .ok (.aload_n 0, 1) := dk_42 (dk_at dksX2_isFree_0 0 rfl rfl)
theorem dX2_isFree_1 : decode cX2_isFree 1 = .ok (.getfield 18, 3) := dk_180 0 18 (dk_at dksX2_isFree_0 1 rfl rfl)
theorem dX2_isFree_4 : decode cX2_isFree 4 = .ok (.iload_n 1, 1) := dk_27 (dk_at dksX2_isFree_0 4 rfl rfl)
theorem dX2_isFree_5 : decode cX2_isFree 5 = .ok (.iaload, 1) := dk_46 (dk_at dksX2_isFree_0 5 rfl rfl)
theorem dX2_isFree_6 : decode cX2_isFree 6 = .ok (.iconst 3, 1) := dk_6 (dk_at dksX2_isFree_0 6 rfl rfl)
theorem dX2_isFree_7 : decode cX2_isFree 7 = .ok (.if_icmp .eq 18, 3) := dk_159 0 18 (dk_at dksX2_isFree_0 7 rfl rfl)
theorem dX2_isFree_10 : decode cX2_isFree 10 = .ok (.aload_n 0, 1) := dk_42 (dk_at dksX2_isFree_0 10 rfl rfl)
theorem dX2_isFree_11 : decode cX2_isFree 11 = .ok (.getfield 18, 3) := dk_180 0 18 (dk_at dksX2_isFree_0 11 rfl rfl)
theorem dX2_isFree_14 : decode cX2_isFree 14 = .ok (.iload_n 1, 1) := dk_27 (dk_at dksX2_isFree_0 14 rfl rfl)
theorem dX2_isFree_15 : decode cX2_isFree 15 = .ok (.iaload, 1) := dk_46 (dk_at dksX2_isFree_0 15 rfl rfl)
theorem dX2_isFree_16 : decode cX2_isFree 16 = .ok (.bipush 6, 2) := dk_16 6 (dk_at dksX2_isFree_0 16 rfl rfl)
theorem dX2_isFree_18 : decode cX2_isFree 18 = .ok (.if_icmp .eq 7, 3) := dk_159 0 7 (dk_at dksX2_isFree_0 18 rfl rfl)
theorem dX2_isFree_21 : decode cX2_isFree 21 = .ok (.iconst 1, 1) := dk_4 (dk_at dksX2_isFree_0 21 rfl rfl)
theorem dX2_isFree_22 : decode cX2_isFree 22 = .ok (.goto 4, 3) := dk_167 0 4 (dk_at dksX2_isFree_1 0 rfl rfl)
theorem dX2_isFree_25 : decode cX2_isFree 25 = .ok (.iconst 0, 1) := dk_3 (dk_at dksX2_isFree_1 3 rfl rfl)
theorem dX2_isFree_26 : decode cX2_isFree 26 = .ok (.ireturn, 1) := dk_172 (dk_at dksX2_isFree_1 4 rfl rfl)
abbrev cX2_isDoor : ByteArray := prog_4_method_12_code
def yX2_isDoor : MethodName := ⟨RX2, "isDoor", "(I)Z"⟩
def dkwX2_isDoor_1 : List UInt8 := [132, 2, 1, 167, 255, 233, 3, 172]
abbrev dktX2_isDoor_1 : List UInt8 := dkwX2_isDoor_1 ++ []
def dkwX2_isDoor_0 : List UInt8 := [3, 61, 28, 42, 180, 0, 92, 162, 0, 21, 42, 180, 0, 37, 28, 46, 27, 160, 0, 5, 4, 172]
abbrev dktX2_isDoor_0 : List UInt8 := dkwX2_isDoor_0 ++ dktX2_isDoor_1
theorem dksX2_isDoor_0 : cX2_isDoor.data.toList.drop 0 = dktX2_isDoor_0 := by decide +kernel
theorem dksX2_isDoor_1 : cX2_isDoor.data.toList.drop 22 = dktX2_isDoor_1 := dk_seg dksX2_isDoor_0 22 rfl rfl
theorem dX2_isDoor_0 : decode cX2_isDoor 0 = .ok (.iconst 0, 1) := dk_3 (dk_at dksX2_isDoor_0 0 rfl rfl)
theorem dX2_isDoor_1 : decode cX2_isDoor 1 = .ok (.istore_n 2, 1) := dk_61 (dk_at dksX2_isDoor_0 1 rfl rfl)
theorem dX2_isDoor_2 : decode cX2_isDoor 2 = .ok (.iload_n 2, 1) := dk_28 (dk_at dksX2_isDoor_0 2 rfl rfl)
theorem dX2_isDoor_3 : decode cX2_isDoor 3 = .ok (.aload_n 0, 1) := dk_42 (dk_at dksX2_isDoor_0 3 rfl rfl)
theorem dX2_isDoor_4 : decode cX2_isDoor 4 = .ok (.getfield 92, 3) := dk_180 0 92 (dk_at dksX2_isDoor_0 4 rfl rfl)
theorem dX2_isDoor_7 : decode cX2_isDoor 7 = .ok (.if_icmp .ge 21, 3) := dk_162 0 21 (dk_at dksX2_isDoor_0 7 rfl rfl)
theorem dX2_isDoor_10 : decode cX2_isDoor 10 = .ok (.aload_n 0, 1) := dk_42 (dk_at dksX2_isDoor_0 10 rfl rfl)
theorem dX2_isDoor_11 : decode cX2_isDoor 11 = .ok (.getfield 37, 3) := dk_180 0 37 (dk_at dksX2_isDoor_0 11 rfl rfl)
theorem dX2_isDoor_14 : decode cX2_isDoor 14 = .ok (.iload_n 2, 1) := dk_28 (dk_at dksX2_isDoor_0 14 rfl rfl)
theorem dX2_isDoor_15 : decode cX2_isDoor 15 = .ok (.iaload, 1) := dk_46 (dk_at dksX2_isDoor_0 15 rfl rfl)
theorem dX2_isDoor_16 : decode cX2_isDoor 16 = .ok (.iload_n 1, 1) := dk_27 (dk_at dksX2_isDoor_0 16 rfl rfl)
theorem dX2_isDoor_17 : decode cX2_isDoor 17 = .ok (.if_icmp .ne 5, 3) := dk_160 0 5 (dk_at dksX2_isDoor_0 17 rfl rfl)
theorem dX2_isDoor_20 : decode cX2_isDoor 20 = .ok (.iconst 1, 1) := dk_4 (dk_at dksX2_isDoor_0 20 rfl rfl)
theorem dX2_isDoor_21 : decode cX2_isDoor 21 = .ok (.ireturn, 1) := dk_172 (dk_at dksX2_isDoor_0 21 rfl rfl)
theorem dX2_isDoor_22 : decode cX2_isDoor 22 = .ok (.iinc 2 1, 3) := dk_132 2 1 (dk_at dksX2_isDoor_1 0 rfl rfl)
theorem dX2_isDoor_25 : decode cX2_isDoor 25 = .ok (.goto (-23), 3) := dk_167 255 233 (dk_at dksX2_isDoor_1 3 rfl rfl)
theorem dX2_isDoor_28 : decode cX2_isDoor 28 = .ok (.iconst 0, 1) := dk_3 (dk_at dksX2_isDoor_1 6 rfl rfl)
theorem dX2_isDoor_29 : decode cX2_isDoor 29 = .ok (.ireturn, 1) := dk_172 (dk_at dksX2_isDoor_1 7 rfl rfl)
abbrev cX2_go : ByteArray := prog_4_method_24_code
def yX2_go : MethodName := ⟨RX2, "go", "(ILGrassPark$Law;[LGrassPark$Habit;)V"⟩
def dkwX2_go_0 : List UInt8 := [3, 54, 4, 21, 4, 27, 162, 0, 15, 42, 44, 45, 182, 1, 7, 132, 4, 1, 167, 255, 241, 177]
abbrev dktX2_go_0 : List UInt8 := dkwX2_go_0 ++ []
theorem dksX2_go_0 : cX2_go.data.toList.drop 0 = dktX2_go_0 := by decide +kernel
theorem dX2_go_0 : decode cX2_go 0 = .ok (.iconst 0, 1) := dk_3 (dk_at dksX2_go_0 0 rfl rfl)
theorem dX2_go_1 : decode cX2_go 1 = .ok (.istore 4, 2) := dk_54 4 (dk_at dksX2_go_0 1 rfl rfl)
theorem dX2_go_3 : decode cX2_go 3 = .ok (.iload 4, 2) := dk_21 4 (dk_at dksX2_go_0 3 rfl rfl)
theorem dX2_go_5 : decode cX2_go 5 = .ok (.iload_n 1, 1) := dk_27 (dk_at dksX2_go_0 5 rfl rfl)
theorem dX2_go_6 : decode cX2_go 6 = .ok (.if_icmp .ge 15, 3) := dk_162 0 15 (dk_at dksX2_go_0 6 rfl rfl)
theorem dX2_go_9 : decode cX2_go 9 = .ok (.aload_n 0, 1) := dk_42 (dk_at dksX2_go_0 9 rfl rfl)
theorem dX2_go_10 : decode cX2_go 10 = .ok (.aload_n 2, 1) := dk_44 (dk_at dksX2_go_0 10 rfl rfl)
theorem dX2_go_11 : decode cX2_go 11 = .ok (.aload_n 3, 1) := dk_45 (dk_at dksX2_go_0 11 rfl rfl)
theorem dX2_go_12 : decode cX2_go 12 = .ok (.invokevirtual 263, 3) := dk_182 1 7 (dk_at dksX2_go_0 12 rfl rfl)
theorem dX2_go_15 : decode cX2_go 15 = .ok (.iinc 4 1, 3) := dk_132 4 1 (dk_at dksX2_go_0 15 rfl rfl)
theorem dX2_go_18 : decode cX2_go 18 = .ok (.goto (-15), 3) := dk_167 255 241 (dk_at dksX2_go_0 18 rfl rfl)
theorem dX2_go_21 : decode cX2_go 21 = .ok (.return_, 1) := dk_177 (dk_at dksX2_go_0 21 rfl rfl)
abbrev cX2_tick : ByteArray := prog_4_method_22_code
def yX2_tick : MethodName := ⟨RX2, "tick", "(LGrassPark$Law;[LGrassPark$Habit;)V"⟩
def dkwX2_tick_11 : List UInt8 := [181, 0, 80, 177]
abbrev dktX2_tick_11 : List UInt8 := dkwX2_tick_11 ++ []
def dkwX2_tick_10 : List UInt8 := [160, 0, 11, 42, 29, 182, 0, 76, 167, 0, 6, 132, 3, 1, 167, 255, 123, 42, 89, 180, 0, 80, 4, 96]
abbrev dktX2_tick_10 : List UInt8 := dkwX2_tick_10 ++ dktX2_tick_11
def dkwX2_tick_9 : List UInt8 := [181, 0, 86, 25, 4, 180, 0, 146, 25, 4, 180, 0, 191, 159, 0, 14, 25, 4, 180, 0, 221, 17, 0, 200]
abbrev dktX2_tick_9 : List UInt8 := dkwX2_tick_9 ++ dktX2_tick_10
def dkwX2_tick_8 : List UInt8 := [181, 0, 83, 167, 0, 24, 25, 4, 180, 0, 221, 17, 0, 200, 160, 0, 13, 42, 89, 180, 0, 86, 4, 96]
abbrev dktX2_tick_8 : List UInt8 := dkwX2_tick_8 ++ dktX2_tick_9
def dkwX2_tick_7 : List UInt8 := [182, 0, 253, 25, 4, 180, 0, 146, 25, 4, 180, 0, 191, 160, 0, 16, 42, 89, 180, 0, 83, 4, 96]
abbrev dktX2_tick_7 : List UInt8 := dkwX2_tick_7 ++ dktX2_tick_8
def dkwX2_tick_6 : List UInt8 := [25, 4, 44, 25, 4, 180, 0, 248, 50, 43, 182, 0, 249, 153, 0, 13, 42, 25, 4, 180, 0, 146, 43]
abbrev dktX2_tick_6 : List UInt8 := dkwX2_tick_6 ++ dktX2_tick_7
def dkwX2_tick_5 : List UInt8 := [180, 0, 51, 182, 0, 64, 162, 0, 128, 42, 180, 0, 51, 29, 182, 0, 101, 192, 0, 61, 58, 4, 42]
abbrev dktX2_tick_5 : List UInt8 := dkwX2_tick_5 ++ dktX2_tick_6
def dkwX2_tick_4 : List UInt8 := [25, 4, 180, 0, 241, 29, 182, 0, 244, 182, 0, 72, 87, 132, 3, 1, 167, 255, 148, 3, 62, 29, 42]
abbrev dktX2_tick_4 : List UInt8 := dkwX2_tick_4 ++ dktX2_tick_5
def dkwX2_tick_3 : List UInt8 := [182, 0, 114, 42, 180, 0, 37, 25, 4, 180, 0, 235, 46, 42, 180, 0, 37, 25, 4, 180, 0, 238, 46]
abbrev dktX2_tick_3 : List UInt8 := dkwX2_tick_3 ++ dktX2_tick_4
def dkwX2_tick_2 : List UInt8 := [16, 60, 160, 0, 16, 42, 89, 180, 0, 89, 4, 96, 181, 0, 89, 167, 0, 44, 42, 180, 0, 51, 42]
abbrev dktX2_tick_2 : List UInt8 := dkwX2_tick_2 ++ dktX2_tick_3
def dkwX2_tick_1 : List UInt8 := [58, 4, 25, 4, 42, 180, 0, 80, 182, 0, 232, 154, 0, 6, 167, 0, 69, 42, 180, 0, 51, 182, 0, 64]
abbrev dktX2_tick_1 : List UInt8 := dkwX2_tick_1 ++ dktX2_tick_2
def dkwX2_tick_0 : List UInt8 := [3, 62, 29, 42, 180, 0, 47, 182, 0, 64, 162, 0, 103, 42, 180, 0, 47, 29, 182, 0, 101, 192, 0, 104]
abbrev dktX2_tick_0 : List UInt8 := dkwX2_tick_0 ++ dktX2_tick_1
theorem dksX2_tick_0 : cX2_tick.data.toList.drop 0 = dktX2_tick_0 := by decide +kernel
theorem dksX2_tick_1 : cX2_tick.data.toList.drop 24 = dktX2_tick_1 := dk_seg dksX2_tick_0 24 rfl rfl
theorem dksX2_tick_2 : cX2_tick.data.toList.drop 48 = dktX2_tick_2 := dk_seg dksX2_tick_1 24 rfl rfl
theorem dksX2_tick_3 : cX2_tick.data.toList.drop 71 = dktX2_tick_3 := dk_seg dksX2_tick_2 23 rfl rfl
theorem dksX2_tick_4 : cX2_tick.data.toList.drop 94 = dktX2_tick_4 := dk_seg dksX2_tick_3 23 rfl rfl
theorem dksX2_tick_5 : cX2_tick.data.toList.drop 117 = dktX2_tick_5 := dk_seg dksX2_tick_4 23 rfl rfl
theorem dksX2_tick_6 : cX2_tick.data.toList.drop 140 = dktX2_tick_6 := dk_seg dksX2_tick_5 23 rfl rfl
theorem dksX2_tick_7 : cX2_tick.data.toList.drop 163 = dktX2_tick_7 := dk_seg dksX2_tick_6 23 rfl rfl
theorem dksX2_tick_8 : cX2_tick.data.toList.drop 186 = dktX2_tick_8 := dk_seg dksX2_tick_7 23 rfl rfl
theorem dksX2_tick_9 : cX2_tick.data.toList.drop 210 = dktX2_tick_9 := dk_seg dksX2_tick_8 24 rfl rfl
theorem dksX2_tick_10 : cX2_tick.data.toList.drop 234 = dktX2_tick_10 := dk_seg dksX2_tick_9 24 rfl rfl
theorem dksX2_tick_11 : cX2_tick.data.toList.drop 258 = dktX2_tick_11 := dk_seg dksX2_tick_10 24 rfl rfl
theorem dX2_tick_0 : decode cX2_tick 0 = .ok (.iconst 0, 1) := dk_3 (dk_at dksX2_tick_0 0 rfl rfl)
theorem dX2_tick_1 : decode cX2_tick 1 = .ok (.istore_n 3, 1) := dk_62 (dk_at dksX2_tick_0 1 rfl rfl)
theorem dX2_tick_2 : decode cX2_tick 2 = .ok (.iload_n 3, 1) := dk_29 (dk_at dksX2_tick_0 2 rfl rfl)
theorem dX2_tick_3 : decode cX2_tick 3 = .ok (.aload_n 0, 1) := dk_42 (dk_at dksX2_tick_0 3 rfl rfl)
theorem dX2_tick_4 : decode cX2_tick 4 = .ok (.getfield 47, 3) := dk_180 0 47 (dk_at dksX2_tick_0 4 rfl rfl)
theorem dX2_tick_7 : decode cX2_tick 7 = .ok (.invokevirtual 64, 3) := dk_182 0 64 (dk_at dksX2_tick_0 7 rfl rfl)
theorem dX2_tick_10 : decode cX2_tick 10 = .ok (.if_icmp .ge 103, 3) := dk_162 0 103 (dk_at dksX2_tick_0 10 rfl rfl)
theorem dX2_tick_13 : decode cX2_tick 13 = .ok (.aload_n 0, 1) := dk_42 (dk_at dksX2_tick_0 13 rfl rfl)
theorem dX2_tick_14 : decode cX2_tick 14 = .ok (.getfield 47, 3) := dk_180 0 47 (dk_at dksX2_tick_0 14 rfl rfl)
theorem dX2_tick_17 : decode cX2_tick 17 = .ok (.iload_n 3, 1) := dk_29 (dk_at dksX2_tick_0 17 rfl rfl)
theorem dX2_tick_18 : decode cX2_tick 18 = .ok (.invokevirtual 101, 3) := dk_182 0 101 (dk_at dksX2_tick_0 18 rfl rfl)
theorem dX2_tick_21 : decode cX2_tick 21 = .ok (.checkcast 104, 3) := dk_192 0 104 (dk_at dksX2_tick_0 21 rfl rfl)
theorem dX2_tick_24 : decode cX2_tick 24 = .ok (.astore 4, 2) := dk_58 4 (dk_at dksX2_tick_1 0 rfl rfl)
theorem dX2_tick_26 : decode cX2_tick 26 = .ok (.aload 4, 2) := dk_25 4 (dk_at dksX2_tick_1 2 rfl rfl)
theorem dX2_tick_28 : decode cX2_tick 28 = .ok (.aload_n 0, 1) := dk_42 (dk_at dksX2_tick_1 4 rfl rfl)
theorem dX2_tick_29 : decode cX2_tick 29 = .ok (.getfield 80, 3) := dk_180 0 80 (dk_at dksX2_tick_1 5 rfl rfl)
theorem dX2_tick_32 : decode cX2_tick 32 = .ok (.invokevirtual 232, 3) := dk_182 0 232 (dk_at dksX2_tick_1 8 rfl rfl)
theorem dX2_tick_35 : decode cX2_tick 35 = .ok (.ifCond .ne 6, 3) := dk_154 0 6 (dk_at dksX2_tick_1 11 rfl rfl)
theorem dX2_tick_38 : decode cX2_tick 38 = .ok (.goto 69, 3) := dk_167 0 69 (dk_at dksX2_tick_1 14 rfl rfl)
theorem dX2_tick_41 : decode cX2_tick 41 = .ok (.aload_n 0, 1) := dk_42 (dk_at dksX2_tick_1 17 rfl rfl)
theorem dX2_tick_42 : decode cX2_tick 42 = .ok (.getfield 51, 3) := dk_180 0 51 (dk_at dksX2_tick_1 18 rfl rfl)
theorem dX2_tick_45 : decode cX2_tick 45 = .ok (.invokevirtual 64, 3) := dk_182 0 64 (dk_at dksX2_tick_1 21 rfl rfl)
theorem dX2_tick_48 : decode cX2_tick 48 = .ok (.bipush 60, 2) := dk_16 60 (dk_at dksX2_tick_2 0 rfl rfl)
theorem dX2_tick_50 : decode cX2_tick 50 = .ok (.if_icmp .ne 16, 3) := dk_160 0 16 (dk_at dksX2_tick_2 2 rfl rfl)
theorem dX2_tick_53 : decode cX2_tick 53 = .ok (.aload_n 0, 1) := dk_42 (dk_at dksX2_tick_2 5 rfl rfl)
theorem dX2_tick_54 : decode cX2_tick 54 = .ok (.dup, 1) := dk_89 (dk_at dksX2_tick_2 6 rfl rfl)
theorem dX2_tick_55 : decode cX2_tick 55 = .ok (.getfield 89, 3) := dk_180 0 89 (dk_at dksX2_tick_2 7 rfl rfl)
theorem dX2_tick_58 : decode cX2_tick 58 = .ok (.iconst 1, 1) := dk_4 (dk_at dksX2_tick_2 10 rfl rfl)
theorem dX2_tick_59 : decode cX2_tick 59 = .ok (.iadd, 1) := dk_96 (dk_at dksX2_tick_2 11 rfl rfl)
theorem dX2_tick_60 : decode cX2_tick 60 = .ok (.putfield 89, 3) := dk_181 0 89 (dk_at dksX2_tick_2 12 rfl rfl)
theorem dX2_tick_63 : decode cX2_tick 63 = .ok (.goto 44, 3) := dk_167 0 44 (dk_at dksX2_tick_2 15 rfl rfl)
theorem dX2_tick_66 : decode cX2_tick 66 = .ok (.aload_n 0, 1) := dk_42 (dk_at dksX2_tick_2 18 rfl rfl)
theorem dX2_tick_67 : decode cX2_tick 67 = .ok (.getfield 51, 3) := dk_180 0 51 (dk_at dksX2_tick_2 19 rfl rfl)
theorem dX2_tick_70 : decode cX2_tick 70 = .ok (.aload_n 0, 1) := dk_42 (dk_at dksX2_tick_2 22 rfl rfl)
theorem dX2_tick_71 : decode cX2_tick 71 = .ok (.invokevirtual 114, 3) := dk_182 0 114 (dk_at dksX2_tick_3 0 rfl rfl)
theorem dX2_tick_74 : decode cX2_tick 74 = .ok (.aload_n 0, 1) := dk_42 (dk_at dksX2_tick_3 3 rfl rfl)
theorem dX2_tick_75 : decode cX2_tick 75 = .ok (.getfield 37, 3) := dk_180 0 37 (dk_at dksX2_tick_3 4 rfl rfl)
theorem dX2_tick_78 : decode cX2_tick 78 = .ok (.aload 4, 2) := dk_25 4 (dk_at dksX2_tick_3 7 rfl rfl)
theorem dX2_tick_80 : decode cX2_tick 80 = .ok (.getfield 235, 3) := dk_180 0 235 (dk_at dksX2_tick_3 9 rfl rfl)
theorem dX2_tick_83 : decode cX2_tick 83 = .ok (.iaload, 1) := dk_46 (dk_at dksX2_tick_3 12 rfl rfl)
theorem dX2_tick_84 : decode cX2_tick 84 = .ok (.aload_n 0, 1) := dk_42 (dk_at dksX2_tick_3 13 rfl rfl)
theorem dX2_tick_85 : decode cX2_tick 85 = .ok (.getfield 37, 3) := dk_180 0 37 (dk_at dksX2_tick_3 14 rfl rfl)
theorem dX2_tick_88 : decode cX2_tick 88 = .ok (.aload 4, 2) := dk_25 4 (dk_at dksX2_tick_3 17 rfl rfl)
theorem dX2_tick_90 : decode cX2_tick 90 = .ok (.getfield 238, 3) := dk_180 0 238 (dk_at dksX2_tick_3 19 rfl rfl)
theorem dX2_tick_93 : decode cX2_tick 93 = .ok (.iaload, 1) := dk_46 (dk_at dksX2_tick_3 22 rfl rfl)
theorem dX2_tick_94 : decode cX2_tick 94 = .ok (.aload 4, 2) := dk_25 4 (dk_at dksX2_tick_4 0 rfl rfl)
theorem dX2_tick_96 : decode cX2_tick 96 = .ok (.getfield 241, 3) := dk_180 0 241 (dk_at dksX2_tick_4 2 rfl rfl)
theorem dX2_tick_99 : decode cX2_tick 99 = .ok (.iload_n 3, 1) := dk_29 (dk_at dksX2_tick_4 5 rfl rfl)
theorem dX2_tick_100 : decode cX2_tick 100 = .ok (.invokevirtual 244, 3) := dk_182 0 244 (dk_at dksX2_tick_4 6 rfl rfl)
theorem dX2_tick_103 : decode cX2_tick 103 = .ok (.invokevirtual 72, 3) := dk_182 0 72 (dk_at dksX2_tick_4 9 rfl rfl)
theorem dX2_tick_106 : decode cX2_tick 106 = .ok (.pop, 1) := dk_87 (dk_at dksX2_tick_4 12 rfl rfl)
theorem dX2_tick_107 : decode cX2_tick 107 = .ok (.iinc 3 1, 3) := dk_132 3 1 (dk_at dksX2_tick_4 13 rfl rfl)
theorem dX2_tick_110 : decode cX2_tick 110 = .ok (.goto (-108), 3) := dk_167 255 148 (dk_at dksX2_tick_4 16 rfl rfl)
theorem dX2_tick_113 : decode cX2_tick 113 = .ok (.iconst 0, 1) := dk_3 (dk_at dksX2_tick_4 19 rfl rfl)
theorem dX2_tick_114 : decode cX2_tick 114 = .ok (.istore_n 3, 1) := dk_62 (dk_at dksX2_tick_4 20 rfl rfl)
theorem dX2_tick_115 : decode cX2_tick 115 = .ok (.iload_n 3, 1) := dk_29 (dk_at dksX2_tick_4 21 rfl rfl)
theorem dX2_tick_116 : decode cX2_tick 116 = .ok (.aload_n 0, 1) := dk_42 (dk_at dksX2_tick_4 22 rfl rfl)
theorem dX2_tick_117 : decode cX2_tick 117 = .ok (.getfield 51, 3) := dk_180 0 51 (dk_at dksX2_tick_5 0 rfl rfl)
theorem dX2_tick_120 : decode cX2_tick 120 = .ok (.invokevirtual 64, 3) := dk_182 0 64 (dk_at dksX2_tick_5 3 rfl rfl)
theorem dX2_tick_123 : decode cX2_tick 123 = .ok (.if_icmp .ge 128, 3) := dk_162 0 128 (dk_at dksX2_tick_5 6 rfl rfl)
theorem dX2_tick_126 : decode cX2_tick 126 = .ok (.aload_n 0, 1) := dk_42 (dk_at dksX2_tick_5 9 rfl rfl)
theorem dX2_tick_127 : decode cX2_tick 127 = .ok (.getfield 51, 3) := dk_180 0 51 (dk_at dksX2_tick_5 10 rfl rfl)
theorem dX2_tick_130 : decode cX2_tick 130 = .ok (.iload_n 3, 1) := dk_29 (dk_at dksX2_tick_5 13 rfl rfl)
theorem dX2_tick_131 : decode cX2_tick 131 = .ok (.invokevirtual 101, 3) := dk_182 0 101 (dk_at dksX2_tick_5 14 rfl rfl)
theorem dX2_tick_134 : decode cX2_tick 134 = .ok (.checkcast 61, 3) := dk_192 0 61 (dk_at dksX2_tick_5 17 rfl rfl)
theorem dX2_tick_137 : decode cX2_tick 137 = .ok (.astore 4, 2) := dk_58 4 (dk_at dksX2_tick_5 20 rfl rfl)
theorem dX2_tick_139 : decode cX2_tick 139 = .ok (.aload_n 0, 1) := dk_42 (dk_at dksX2_tick_5 22 rfl rfl)
theorem dX2_tick_140 : decode cX2_tick 140 = .ok (.aload 4, 2) := dk_25 4 (dk_at dksX2_tick_6 0 rfl rfl)
theorem dX2_tick_142 : decode cX2_tick 142 = .ok (.aload_n 2, 1) := dk_44 (dk_at dksX2_tick_6 2 rfl rfl)
theorem dX2_tick_143 : decode cX2_tick 143 = .ok (.aload 4, 2) := dk_25 4 (dk_at dksX2_tick_6 3 rfl rfl)
theorem dX2_tick_145 : decode cX2_tick 145 = .ok (.getfield 248, 3) := dk_180 0 248 (dk_at dksX2_tick_6 5 rfl rfl)
theorem dX2_tick_148 : decode cX2_tick 148 = .ok (.aaload, 1) := dk_50 (dk_at dksX2_tick_6 8 rfl rfl)
theorem dX2_tick_149 : decode cX2_tick 149 = .ok (.aload_n 1, 1) := dk_43 (dk_at dksX2_tick_6 9 rfl rfl)
theorem dX2_tick_150 : decode cX2_tick 150 = .ok (.invokevirtual 249, 3) := dk_182 0 249 (dk_at dksX2_tick_6 10 rfl rfl)
theorem dX2_tick_153 : decode cX2_tick 153 = .ok (.ifCond .eq 13, 3) := dk_153 0 13 (dk_at dksX2_tick_6 13 rfl rfl)
theorem dX2_tick_156 : decode cX2_tick 156 = .ok (.aload_n 0, 1) := dk_42 (dk_at dksX2_tick_6 16 rfl rfl)
theorem dX2_tick_157 : decode cX2_tick 157 = .ok (.aload 4, 2) := dk_25 4 (dk_at dksX2_tick_6 17 rfl rfl)
theorem dX2_tick_159 : decode cX2_tick 159 = .ok (.getfield 146, 3) := dk_180 0 146 (dk_at dksX2_tick_6 19 rfl rfl)
theorem dX2_tick_162 : decode cX2_tick 162 = .ok (.aload_n 1, 1) := dk_43 (dk_at dksX2_tick_6 22 rfl rfl)
theorem dX2_tick_163 : decode cX2_tick 163 = .ok (.invokevirtual 253, 3) := dk_182 0 253 (dk_at dksX2_tick_7 0 rfl rfl)
theorem dX2_tick_166 : decode cX2_tick 166 = .ok (.aload 4, 2) := dk_25 4 (dk_at dksX2_tick_7 3 rfl rfl)
theorem dX2_tick_168 : decode cX2_tick 168 = .ok (.getfield 146, 3) := dk_180 0 146 (dk_at dksX2_tick_7 5 rfl rfl)
theorem dX2_tick_171 : decode cX2_tick 171 = .ok (.aload 4, 2) := dk_25 4 (dk_at dksX2_tick_7 8 rfl rfl)
theorem dX2_tick_173 : decode cX2_tick 173 = .ok (.getfield 191, 3) := dk_180 0 191 (dk_at dksX2_tick_7 10 rfl rfl)
theorem dX2_tick_176 : decode cX2_tick 176 = .ok (.if_icmp .ne 16, 3) := dk_160 0 16 (dk_at dksX2_tick_7 13 rfl rfl)
theorem dX2_tick_179 : decode cX2_tick 179 = .ok (.aload_n 0, 1) := dk_42 (dk_at dksX2_tick_7 16 rfl rfl)
theorem dX2_tick_180 : decode cX2_tick 180 = .ok (.dup, 1) := dk_89 (dk_at dksX2_tick_7 17 rfl rfl)
theorem dX2_tick_181 : decode cX2_tick 181 = .ok (.getfield 83, 3) := dk_180 0 83 (dk_at dksX2_tick_7 18 rfl rfl)
theorem dX2_tick_184 : decode cX2_tick 184 = .ok (.iconst 1, 1) := dk_4 (dk_at dksX2_tick_7 21 rfl rfl)
theorem dX2_tick_185 : decode cX2_tick 185 = .ok (.iadd, 1) := dk_96 (dk_at dksX2_tick_7 22 rfl rfl)
theorem dX2_tick_186 : decode cX2_tick 186 = .ok (.putfield 83, 3) := dk_181 0 83 (dk_at dksX2_tick_8 0 rfl rfl)
theorem dX2_tick_189 : decode cX2_tick 189 = .ok (.goto 24, 3) := dk_167 0 24 (dk_at dksX2_tick_8 3 rfl rfl)
theorem dX2_tick_192 : decode cX2_tick 192 = .ok (.aload 4, 2) := dk_25 4 (dk_at dksX2_tick_8 6 rfl rfl)
theorem dX2_tick_194 : decode cX2_tick 194 = .ok (.getfield 221, 3) := dk_180 0 221 (dk_at dksX2_tick_8 8 rfl rfl)
theorem dX2_tick_197 : decode cX2_tick 197 = .ok (.sipush 200, 3) := dk_17 0 200 (dk_at dksX2_tick_8 11 rfl rfl)
theorem dX2_tick_200 : decode cX2_tick 200 = .ok (.if_icmp .ne 13, 3) := dk_160 0 13 (dk_at dksX2_tick_8 14 rfl rfl)
theorem dX2_tick_203 : decode cX2_tick 203 = .ok (.aload_n 0, 1) := dk_42 (dk_at dksX2_tick_8 17 rfl rfl)
theorem dX2_tick_204 : decode cX2_tick 204 = .ok (.dup, 1) := dk_89 (dk_at dksX2_tick_8 18 rfl rfl)
theorem dX2_tick_205 : decode cX2_tick 205 = .ok (.getfield 86, 3) := dk_180 0 86 (dk_at dksX2_tick_8 19 rfl rfl)
theorem dX2_tick_208 : decode cX2_tick 208 = .ok (.iconst 1, 1) := dk_4 (dk_at dksX2_tick_8 22 rfl rfl)
theorem dX2_tick_209 : decode cX2_tick 209 = .ok (.iadd, 1) := dk_96 (dk_at dksX2_tick_8 23 rfl rfl)
theorem dX2_tick_210 : decode cX2_tick 210 = .ok (.putfield 86, 3) := dk_181 0 86 (dk_at dksX2_tick_9 0 rfl rfl)
theorem dX2_tick_213 : decode cX2_tick 213 = .ok (.aload 4, 2) := dk_25 4 (dk_at dksX2_tick_9 3 rfl rfl)
theorem dX2_tick_215 : decode cX2_tick 215 = .ok (.getfield 146, 3) := dk_180 0 146 (dk_at dksX2_tick_9 5 rfl rfl)
theorem dX2_tick_218 : decode cX2_tick 218 = .ok (.aload 4, 2) := dk_25 4 (dk_at dksX2_tick_9 8 rfl rfl)
theorem dX2_tick_220 : decode cX2_tick 220 = .ok (.getfield 191, 3) := dk_180 0 191 (dk_at dksX2_tick_9 10 rfl rfl)
theorem dX2_tick_223 : decode cX2_tick 223 = .ok (.if_icmp .eq 14, 3) := dk_159 0 14 (dk_at dksX2_tick_9 13 rfl rfl)
theorem dX2_tick_226 : decode cX2_tick 226 = .ok (.aload 4, 2) := dk_25 4 (dk_at dksX2_tick_9 16 rfl rfl)
theorem dX2_tick_228 : decode cX2_tick 228 = .ok (.getfield 221, 3) := dk_180 0 221 (dk_at dksX2_tick_9 18 rfl rfl)
theorem dX2_tick_231 : decode cX2_tick 231 = .ok (.sipush 200, 3) := dk_17 0 200 (dk_at dksX2_tick_9 21 rfl rfl)
theorem dX2_tick_234 : decode cX2_tick 234 = .ok (.if_icmp .ne 11, 3) := dk_160 0 11 (dk_at dksX2_tick_10 0 rfl rfl)
theorem dX2_tick_237 : decode cX2_tick 237 = .ok (.aload_n 0, 1) := dk_42 (dk_at dksX2_tick_10 3 rfl rfl)
theorem dX2_tick_238 : decode cX2_tick 238 = .ok (.iload_n 3, 1) := dk_29 (dk_at dksX2_tick_10 4 rfl rfl)
theorem dX2_tick_239 : decode cX2_tick 239 = .ok (.invokevirtual 76, 3) := dk_182 0 76 (dk_at dksX2_tick_10 5 rfl rfl)
theorem dX2_tick_242 : decode cX2_tick 242 = .ok (.goto 6, 3) := dk_167 0 6 (dk_at dksX2_tick_10 8 rfl rfl)
theorem dX2_tick_245 : decode cX2_tick 245 = .ok (.iinc 3 1, 3) := dk_132 3 1 (dk_at dksX2_tick_10 11 rfl rfl)
theorem dX2_tick_248 : decode cX2_tick 248 = .ok (.goto (-133), 3) := dk_167 255 123 (dk_at dksX2_tick_10 14 rfl rfl)
theorem dX2_tick_251 : decode cX2_tick 251 = .ok (.aload_n 0, 1) := dk_42 (dk_at dksX2_tick_10 17 rfl rfl)
theorem dX2_tick_252 : decode cX2_tick 252 = .ok (.dup, 1) := dk_89 (dk_at dksX2_tick_10 18 rfl rfl)
theorem dX2_tick_253 : decode cX2_tick 253 = .ok (.getfield 80, 3) := dk_180 0 80 (dk_at dksX2_tick_10 19 rfl rfl)
theorem dX2_tick_256 : decode cX2_tick 256 = .ok (.iconst 1, 1) := dk_4 (dk_at dksX2_tick_10 22 rfl rfl)
theorem dX2_tick_257 : decode cX2_tick 257 = .ok (.iadd, 1) := dk_96 (dk_at dksX2_tick_10 23 rfl rfl)
theorem dX2_tick_258 : decode cX2_tick 258 = .ok (.putfield 80, 3) := dk_181 0 80 (dk_at dksX2_tick_11 0 rfl rfl)
theorem dX2_tick_261 : decode cX2_tick 261 = .ok (.return_, 1) := dk_177 (dk_at dksX2_tick_11 3 rfl rfl)
abbrev cX2_fresh : ByteArray := prog_4_method_2_code
def yX2_fresh : MethodName := ⟨RX2, "fresh", "()LGrassPark$Walker;"⟩
def dkwX2_fresh_1 : List UInt8 := [42, 180, 0, 54, 182, 0, 64, 4, 100, 182, 0, 68, 192, 0, 61, 176]
abbrev dktX2_fresh_1 : List UInt8 := dkwX2_fresh_1 ++ []
def dkwX2_fresh_0 : List UInt8 := [42, 180, 0, 54, 182, 0, 57, 153, 0, 13, 187, 0, 61, 89, 183, 0, 63, 167, 0, 22, 42, 180, 0, 54]
abbrev dktX2_fresh_0 : List UInt8 := dkwX2_fresh_0 ++ dktX2_fresh_1
theorem dksX2_fresh_0 : cX2_fresh.data.toList.drop 0 = dktX2_fresh_0 := by decide +kernel
theorem dksX2_fresh_1 : cX2_fresh.data.toList.drop 24 = dktX2_fresh_1 := dk_seg dksX2_fresh_0 24 rfl rfl
theorem dX2_fresh_0 : decode cX2_fresh 0 = .ok (.aload_n 0, 1) := dk_42 (dk_at dksX2_fresh_0 0 rfl rfl)
theorem dX2_fresh_1 : decode cX2_fresh 1 = .ok (.getfield 54, 3) := dk_180 0 54 (dk_at dksX2_fresh_0 1 rfl rfl)
theorem dX2_fresh_4 : decode cX2_fresh 4 = .ok (.invokevirtual 57, 3) := dk_182 0 57 (dk_at dksX2_fresh_0 4 rfl rfl)
theorem dX2_fresh_7 : decode cX2_fresh 7 = .ok (.ifCond .eq 13, 3) := dk_153 0 13 (dk_at dksX2_fresh_0 7 rfl rfl)
theorem dX2_fresh_10 : decode cX2_fresh 10 = .ok (.new 61, 3) := dk_187 0 61 (dk_at dksX2_fresh_0 10 rfl rfl)
theorem dX2_fresh_13 : decode cX2_fresh 13 = .ok (.dup, 1) := dk_89 (dk_at dksX2_fresh_0 13 rfl rfl)
theorem dX2_fresh_14 : decode cX2_fresh 14 = .ok (.invokespecial 63, 3) := dk_183 0 63 (dk_at dksX2_fresh_0 14 rfl rfl)
theorem dX2_fresh_17 : decode cX2_fresh 17 = .ok (.goto 22, 3) := dk_167 0 22 (dk_at dksX2_fresh_0 17 rfl rfl)
theorem dX2_fresh_20 : decode cX2_fresh 20 = .ok (.aload_n 0, 1) := dk_42 (dk_at dksX2_fresh_0 20 rfl rfl)
theorem dX2_fresh_21 : decode cX2_fresh 21 = .ok (.getfield 54, 3) := dk_180 0 54 (dk_at dksX2_fresh_0 21 rfl rfl)
theorem dX2_fresh_24 : decode cX2_fresh 24 = .ok (.aload_n 0, 1) := dk_42 (dk_at dksX2_fresh_1 0 rfl rfl)
theorem dX2_fresh_25 : decode cX2_fresh 25 = .ok (.getfield 54, 3) := dk_180 0 54 (dk_at dksX2_fresh_1 1 rfl rfl)
theorem dX2_fresh_28 : decode cX2_fresh 28 = .ok (.invokevirtual 64, 3) := dk_182 0 64 (dk_at dksX2_fresh_1 4 rfl rfl)
theorem dX2_fresh_31 : decode cX2_fresh 31 = .ok (.iconst 1, 1) := dk_4 (dk_at dksX2_fresh_1 7 rfl rfl)
theorem dX2_fresh_32 : decode cX2_fresh 32 = .ok (.isub, 1) := dk_100 (dk_at dksX2_fresh_1 8 rfl rfl)
theorem dX2_fresh_33 : decode cX2_fresh 33 = .ok (.invokevirtual 68, 3) := dk_182 0 68 (dk_at dksX2_fresh_1 9 rfl rfl)
theorem dX2_fresh_36 : decode cX2_fresh 36 = .ok (.checkcast 61, 3) := dk_192 0 61 (dk_at dksX2_fresh_1 12 rfl rfl)
theorem dX2_fresh_39 : decode cX2_fresh 39 = .ok (.areturn, 1) := dk_176 (dk_at dksX2_fresh_1 15 rfl rfl)
abbrev cX2_steps : ByteArray := prog_4_method_20_code
def yX2_steps : MethodName := ⟨RX2, "steps", "(LGrassPark$Walker;LGrassPark$Habit;LGrassPark$Law;)Z"⟩
def dkwX2_steps_2 : List UInt8 := [181, 0, 146, 43, 21, 4, 181, 0, 176, 4, 172]
abbrev dktX2_steps_2 : List UInt8 := dkwX2_steps_2 ++ []
def dkwX2_steps_1 : List UInt8 := [160, 0, 5, 3, 172, 43, 43, 180, 0, 146, 181, 0, 179, 43, 42, 43, 180, 0, 146, 21, 4, 182, 0, 166]
abbrev dktX2_steps_1 : List UInt8 := dkwX2_steps_1 ++ dktX2_steps_2
def dkwX2_steps_0 : List UInt8 := [43, 89, 180, 0, 221, 4, 96, 181, 0, 221, 42, 43, 44, 45, 182, 0, 224, 54, 4, 21, 4, 2]
abbrev dktX2_steps_0 : List UInt8 := dkwX2_steps_0 ++ dktX2_steps_1
theorem dksX2_steps_0 : cX2_steps.data.toList.drop 0 = dktX2_steps_0 := by decide +kernel
theorem dksX2_steps_1 : cX2_steps.data.toList.drop 22 = dktX2_steps_1 := dk_seg dksX2_steps_0 22 rfl rfl
theorem dksX2_steps_2 : cX2_steps.data.toList.drop 46 = dktX2_steps_2 := dk_seg dksX2_steps_1 24 rfl rfl
theorem dX2_steps_0 : decode cX2_steps 0 = .ok (.aload_n 1, 1) := dk_43 (dk_at dksX2_steps_0 0 rfl rfl)
theorem dX2_steps_1 : decode cX2_steps 1 = .ok (.dup, 1) := dk_89 (dk_at dksX2_steps_0 1 rfl rfl)
theorem dX2_steps_2 : decode cX2_steps 2 = .ok (.getfield 221, 3) := dk_180 0 221 (dk_at dksX2_steps_0 2 rfl rfl)
theorem dX2_steps_5 : decode cX2_steps 5 = .ok (.iconst 1, 1) := dk_4 (dk_at dksX2_steps_0 5 rfl rfl)
theorem dX2_steps_6 : decode cX2_steps 6 = .ok (.iadd, 1) := dk_96 (dk_at dksX2_steps_0 6 rfl rfl)
theorem dX2_steps_7 : decode cX2_steps 7 = .ok (.putfield 221, 3) := dk_181 0 221 (dk_at dksX2_steps_0 7 rfl rfl)
theorem dX2_steps_10 : decode cX2_steps 10 = .ok (.aload_n 0, 1) := dk_42 (dk_at dksX2_steps_0 10 rfl rfl)
theorem dX2_steps_11 : decode cX2_steps 11 = .ok (.aload_n 1, 1) := dk_43 (dk_at dksX2_steps_0 11 rfl rfl)
theorem dX2_steps_12 : decode cX2_steps 12 = .ok (.aload_n 2, 1) := dk_44 (dk_at dksX2_steps_0 12 rfl rfl)
theorem dX2_steps_13 : decode cX2_steps 13 = .ok (.aload_n 3, 1) := dk_45 (dk_at dksX2_steps_0 13 rfl rfl)
theorem dX2_steps_14 : decode cX2_steps 14 = .ok (.invokevirtual 224, 3) := dk_182 0 224 (dk_at dksX2_steps_0 14 rfl rfl)
theorem dX2_steps_17 : decode cX2_steps 17 = .ok (.istore 4, 2) := dk_54 4 (dk_at dksX2_steps_0 17 rfl rfl)
theorem dX2_steps_19 : decode cX2_steps 19 = .ok (.iload 4, 2) := dk_21 4 (dk_at dksX2_steps_0 19 rfl rfl)
theorem dX2_steps_21 : decode cX2_steps 21 = .ok (.iconst (-1), 1) := dk_2 (dk_at dksX2_steps_0 21 rfl rfl)
theorem dX2_steps_22 : decode cX2_steps 22 = .ok (.if_icmp .ne 5, 3) := dk_160 0 5 (dk_at dksX2_steps_1 0 rfl rfl)
theorem dX2_steps_25 : decode cX2_steps 25 = .ok (.iconst 0, 1) := dk_3 (dk_at dksX2_steps_1 3 rfl rfl)
theorem dX2_steps_26 : decode cX2_steps 26 = .ok (.ireturn, 1) := dk_172 (dk_at dksX2_steps_1 4 rfl rfl)
theorem dX2_steps_27 : decode cX2_steps 27 = .ok (.aload_n 1, 1) := dk_43 (dk_at dksX2_steps_1 5 rfl rfl)
theorem dX2_steps_28 : decode cX2_steps 28 = .ok (.aload_n 1, 1) := dk_43 (dk_at dksX2_steps_1 6 rfl rfl)
theorem dX2_steps_29 : decode cX2_steps 29 = .ok (.getfield 146, 3) := dk_180 0 146 (dk_at dksX2_steps_1 7 rfl rfl)
theorem dX2_steps_32 : decode cX2_steps 32 = .ok (.putfield 179, 3) := dk_181 0 179 (dk_at dksX2_steps_1 10 rfl rfl)
theorem dX2_steps_35 : decode cX2_steps 35 = .ok (.aload_n 1, 1) := dk_43 (dk_at dksX2_steps_1 13 rfl rfl)
theorem dX2_steps_36 : decode cX2_steps 36 = .ok (.aload_n 0, 1) := dk_42 (dk_at dksX2_steps_1 14 rfl rfl)
theorem dX2_steps_37 : decode cX2_steps 37 = .ok (.aload_n 1, 1) := dk_43 (dk_at dksX2_steps_1 15 rfl rfl)
theorem dX2_steps_38 : decode cX2_steps 38 = .ok (.getfield 146, 3) := dk_180 0 146 (dk_at dksX2_steps_1 16 rfl rfl)
theorem dX2_steps_41 : decode cX2_steps 41 = .ok (.iload 4, 2) := dk_21 4 (dk_at dksX2_steps_1 19 rfl rfl)
theorem dX2_steps_43 : decode cX2_steps 43 = .ok (.invokevirtual 166, 3) := dk_182 0 166 (dk_at dksX2_steps_1 21 rfl rfl)
theorem dX2_steps_46 : decode cX2_steps 46 = .ok (.putfield 146, 3) := dk_181 0 146 (dk_at dksX2_steps_2 0 rfl rfl)
theorem dX2_steps_49 : decode cX2_steps 49 = .ok (.aload_n 1, 1) := dk_43 (dk_at dksX2_steps_2 3 rfl rfl)
theorem dX2_steps_50 : decode cX2_steps 50 = .ok (.iload 4, 2) := dk_21 4 (dk_at dksX2_steps_2 4 rfl rfl)
theorem dX2_steps_52 : decode cX2_steps 52 = .ok (.putfield 176, 3) := dk_181 0 176 (dk_at dksX2_steps_2 6 rfl rfl)
theorem dX2_steps_55 : decode cX2_steps 55 = .ok (.iconst 1, 1) := dk_4 (dk_at dksX2_steps_2 9 rfl rfl)
theorem dX2_steps_56 : decode cX2_steps 56 = .ok (.ireturn, 1) := dk_172 (dk_at dksX2_steps_2 10 rfl rfl)
abbrev cX2_wayOf : ByteArray := prog_4_method_19_code
def yX2_wayOf : MethodName := ⟨RX2, "wayOf", "(LGrassPark$Walker;LGrassPark$Habit;LGrassPark$Law;)I"⟩
def dkwX2_wayOf_4 : List UInt8 := [21, 4, 172]
abbrev dktX2_wayOf_4 : List UInt8 := dkwX2_wayOf_4 ++ []
def dkwX2_wayOf_3 : List UInt8 := [21, 8, 21, 5, 161, 0, 6, 167, 0, 11, 21, 8, 54, 5, 21, 6, 54, 4, 132, 6, 1, 167, 255, 173]
abbrev dktX2_wayOf_3 : List UInt8 := dkwX2_wayOf_3 ++ dktX2_wayOf_4
def dkwX2_wayOf_2 : List UInt8 := [21, 7, 182, 0, 162, 154, 0, 6, 167, 0, 34, 42, 43, 21, 7, 21, 6, 44, 45, 182, 0, 217, 54, 8]
abbrev dktX2_wayOf_2 : List UInt8 := dkwX2_wayOf_2 ++ dktX2_wayOf_3
def dkwX2_wayOf_1 : List UInt8 := [182, 0, 166, 54, 7, 21, 7, 43, 180, 0, 191, 160, 0, 6, 21, 6, 172, 21, 7, 2, 159, 0, 46, 42]
abbrev dktX2_wayOf_1 : List UInt8 := dkwX2_wayOf_1 ++ dktX2_wayOf_2
def dkwX2_wayOf_0 : List UInt8 := [2, 54, 4, 18, 209, 54, 5, 3, 54, 6, 21, 6, 16, 8, 162, 0, 82, 42, 43, 180, 0, 146, 21, 6]
abbrev dktX2_wayOf_0 : List UInt8 := dkwX2_wayOf_0 ++ dktX2_wayOf_1
theorem dksX2_wayOf_0 : cX2_wayOf.data.toList.drop 0 = dktX2_wayOf_0 := by decide +kernel
theorem dksX2_wayOf_1 : cX2_wayOf.data.toList.drop 24 = dktX2_wayOf_1 := dk_seg dksX2_wayOf_0 24 rfl rfl
theorem dksX2_wayOf_2 : cX2_wayOf.data.toList.drop 48 = dktX2_wayOf_2 := dk_seg dksX2_wayOf_1 24 rfl rfl
theorem dksX2_wayOf_3 : cX2_wayOf.data.toList.drop 72 = dktX2_wayOf_3 := dk_seg dksX2_wayOf_2 24 rfl rfl
theorem dksX2_wayOf_4 : cX2_wayOf.data.toList.drop 96 = dktX2_wayOf_4 := dk_seg dksX2_wayOf_3 24 rfl rfl
theorem dX2_wayOf_0 : decode cX2_wayOf 0 = .ok (.iconst (-1), 1) := dk_2 (dk_at dksX2_wayOf_0 0 rfl rfl)
theorem dX2_wayOf_1 : decode cX2_wayOf 1 = .ok (.istore 4, 2) := dk_54 4 (dk_at dksX2_wayOf_0 1 rfl rfl)
theorem dX2_wayOf_3 : decode cX2_wayOf 3 = .ok (.ldc 209, 2) := dk_18 209 (dk_at dksX2_wayOf_0 3 rfl rfl)
theorem dX2_wayOf_5 : decode cX2_wayOf 5 = .ok (.istore 5, 2) := dk_54 5 (dk_at dksX2_wayOf_0 5 rfl rfl)
theorem dX2_wayOf_7 : decode cX2_wayOf 7 = .ok (.iconst 0, 1) := dk_3 (dk_at dksX2_wayOf_0 7 rfl rfl)
theorem dX2_wayOf_8 : decode cX2_wayOf 8 = .ok (.istore 6, 2) := dk_54 6 (dk_at dksX2_wayOf_0 8 rfl rfl)
theorem dX2_wayOf_10 : decode cX2_wayOf 10 = .ok (.iload 6, 2) := dk_21 6 (dk_at dksX2_wayOf_0 10 rfl rfl)
theorem dX2_wayOf_12 : decode cX2_wayOf 12 = .ok (.bipush 8, 2) := dk_16 8 (dk_at dksX2_wayOf_0 12 rfl rfl)
theorem dX2_wayOf_14 : decode cX2_wayOf 14 = .ok (.if_icmp .ge 82, 3) := dk_162 0 82 (dk_at dksX2_wayOf_0 14 rfl rfl)
theorem dX2_wayOf_17 : decode cX2_wayOf 17 = .ok (.aload_n 0, 1) := dk_42 (dk_at dksX2_wayOf_0 17 rfl rfl)
theorem dX2_wayOf_18 : decode cX2_wayOf 18 = .ok (.aload_n 1, 1) := dk_43 (dk_at dksX2_wayOf_0 18 rfl rfl)
theorem dX2_wayOf_19 : decode cX2_wayOf 19 = .ok (.getfield 146, 3) := dk_180 0 146 (dk_at dksX2_wayOf_0 19 rfl rfl)
theorem dX2_wayOf_22 : decode cX2_wayOf 22 = .ok (.iload 6, 2) := dk_21 6 (dk_at dksX2_wayOf_0 22 rfl rfl)
theorem dX2_wayOf_24 : decode cX2_wayOf 24 = .ok (.invokevirtual 166, 3) := dk_182 0 166 (dk_at dksX2_wayOf_1 0 rfl rfl)
theorem dX2_wayOf_27 : decode cX2_wayOf 27 = .ok (.istore 7, 2) := dk_54 7 (dk_at dksX2_wayOf_1 3 rfl rfl)
theorem dX2_wayOf_29 : decode cX2_wayOf 29 = .ok (.iload 7, 2) := dk_21 7 (dk_at dksX2_wayOf_1 5 rfl rfl)
theorem dX2_wayOf_31 : decode cX2_wayOf 31 = .ok (.aload_n 1, 1) := dk_43 (dk_at dksX2_wayOf_1 7 rfl rfl)
theorem dX2_wayOf_32 : decode cX2_wayOf 32 = .ok (.getfield 191, 3) := dk_180 0 191 (dk_at dksX2_wayOf_1 8 rfl rfl)
theorem dX2_wayOf_35 : decode cX2_wayOf 35 = .ok (.if_icmp .ne 6, 3) := dk_160 0 6 (dk_at dksX2_wayOf_1 11 rfl rfl)
theorem dX2_wayOf_38 : decode cX2_wayOf 38 = .ok (.iload 6, 2) := dk_21 6 (dk_at dksX2_wayOf_1 14 rfl rfl)
theorem dX2_wayOf_40 : decode cX2_wayOf 40 = .ok (.ireturn, 1) := dk_172 (dk_at dksX2_wayOf_1 16 rfl rfl)
theorem dX2_wayOf_41 : decode cX2_wayOf 41 = .ok (.iload 7, 2) := dk_21 7 (dk_at dksX2_wayOf_1 17 rfl rfl)
theorem dX2_wayOf_43 : decode cX2_wayOf 43 = .ok (.iconst (-1), 1) := dk_2 (dk_at dksX2_wayOf_1 19 rfl rfl)
theorem dX2_wayOf_44 : decode cX2_wayOf 44 = .ok (.if_icmp .eq 46, 3) := dk_159 0 46 (dk_at dksX2_wayOf_1 20 rfl rfl)
theorem dX2_wayOf_47 : decode cX2_wayOf 47 = .ok (.aload_n 0, 1) := dk_42 (dk_at dksX2_wayOf_1 23 rfl rfl)
theorem dX2_wayOf_48 : decode cX2_wayOf 48 = .ok (.iload 7, 2) := dk_21 7 (dk_at dksX2_wayOf_2 0 rfl rfl)
theorem dX2_wayOf_50 : decode cX2_wayOf 50 = .ok (.invokevirtual 162, 3) := dk_182 0 162 (dk_at dksX2_wayOf_2 2 rfl rfl)
theorem dX2_wayOf_53 : decode cX2_wayOf 53 = .ok (.ifCond .ne 6, 3) := dk_154 0 6 (dk_at dksX2_wayOf_2 5 rfl rfl)
theorem dX2_wayOf_56 : decode cX2_wayOf 56 = .ok (.goto 34, 3) := dk_167 0 34 (dk_at dksX2_wayOf_2 8 rfl rfl)
theorem dX2_wayOf_59 : decode cX2_wayOf 59 = .ok (.aload_n 0, 1) := dk_42 (dk_at dksX2_wayOf_2 11 rfl rfl)
theorem dX2_wayOf_60 : decode cX2_wayOf 60 = .ok (.aload_n 1, 1) := dk_43 (dk_at dksX2_wayOf_2 12 rfl rfl)
theorem dX2_wayOf_61 : decode cX2_wayOf 61 = .ok (.iload 7, 2) := dk_21 7 (dk_at dksX2_wayOf_2 13 rfl rfl)
theorem dX2_wayOf_63 : decode cX2_wayOf 63 = .ok (.iload 6, 2) := dk_21 6 (dk_at dksX2_wayOf_2 15 rfl rfl)
theorem dX2_wayOf_65 : decode cX2_wayOf 65 = .ok (.aload_n 2, 1) := dk_44 (dk_at dksX2_wayOf_2 17 rfl rfl)
theorem dX2_wayOf_66 : decode cX2_wayOf 66 = .ok (.aload_n 3, 1) := dk_45 (dk_at dksX2_wayOf_2 18 rfl rfl)
theorem dX2_wayOf_67 : decode cX2_wayOf 67 = .ok (.invokevirtual 217, 3) := dk_182 0 217 (dk_at dksX2_wayOf_2 19 rfl rfl)
theorem dX2_wayOf_70 : decode cX2_wayOf 70 = .ok (.istore 8, 2) := dk_54 8 (dk_at dksX2_wayOf_2 22 rfl rfl)
theorem dX2_wayOf_72 : decode cX2_wayOf 72 = .ok (.iload 8, 2) := dk_21 8 (dk_at dksX2_wayOf_3 0 rfl rfl)
theorem dX2_wayOf_74 : decode cX2_wayOf 74 = .ok (.iload 5, 2) := dk_21 5 (dk_at dksX2_wayOf_3 2 rfl rfl)
theorem dX2_wayOf_76 : decode cX2_wayOf 76 = .ok (.if_icmp .lt 6, 3) := dk_161 0 6 (dk_at dksX2_wayOf_3 4 rfl rfl)
theorem dX2_wayOf_79 : decode cX2_wayOf 79 = .ok (.goto 11, 3) := dk_167 0 11 (dk_at dksX2_wayOf_3 7 rfl rfl)
theorem dX2_wayOf_82 : decode cX2_wayOf 82 = .ok (.iload 8, 2) := dk_21 8 (dk_at dksX2_wayOf_3 10 rfl rfl)
theorem dX2_wayOf_84 : decode cX2_wayOf 84 = .ok (.istore 5, 2) := dk_54 5 (dk_at dksX2_wayOf_3 12 rfl rfl)
theorem dX2_wayOf_86 : decode cX2_wayOf 86 = .ok (.iload 6, 2) := dk_21 6 (dk_at dksX2_wayOf_3 14 rfl rfl)
theorem dX2_wayOf_88 : decode cX2_wayOf 88 = .ok (.istore 4, 2) := dk_54 4 (dk_at dksX2_wayOf_3 16 rfl rfl)
theorem dX2_wayOf_90 : decode cX2_wayOf 90 = .ok (.iinc 6 1, 3) := dk_132 6 1 (dk_at dksX2_wayOf_3 18 rfl rfl)
theorem dX2_wayOf_93 : decode cX2_wayOf 93 = .ok (.goto (-83), 3) := dk_167 255 173 (dk_at dksX2_wayOf_3 21 rfl rfl)
theorem dX2_wayOf_96 : decode cX2_wayOf 96 = .ok (.iload 4, 2) := dk_21 4 (dk_at dksX2_wayOf_4 0 rfl rfl)
theorem dX2_wayOf_98 : decode cX2_wayOf 98 = .ok (.ireturn, 1) := dk_172 (dk_at dksX2_wayOf_4 2 rfl rfl)
abbrev cX2_beside : ByteArray := prog_4_method_11_code
def yX2_beside : MethodName := ⟨RX2, "beside", "(II)I"⟩
def dkwX2_beside_2 : List UInt8 := [4, 100, 184, 0, 124, 153, 0, 15, 42, 180, 0, 9, 21, 4, 104, 29, 96, 167, 0, 4, 2, 172]
abbrev dktX2_beside_2 : List UInt8 := dkwX2_beside_2 ++ []
def dkwX2_beside_1 : List UInt8 := [96, 54, 4, 29, 3, 42, 180, 0, 9, 4, 100, 184, 0, 124, 153, 0, 30, 21, 4, 3, 42, 180, 0, 15]
abbrev dktX2_beside_1 : List UInt8 := dkwX2_beside_1 ++ dktX2_beside_2
def dkwX2_beside_0 : List UInt8 := [27, 42, 180, 0, 9, 112, 178, 0, 140, 28, 46, 96, 62, 27, 42, 180, 0, 9, 108, 178, 0, 143, 28, 46]
abbrev dktX2_beside_0 : List UInt8 := dkwX2_beside_0 ++ dktX2_beside_1
theorem dksX2_beside_0 : cX2_beside.data.toList.drop 0 = dktX2_beside_0 := by decide +kernel
theorem dksX2_beside_1 : cX2_beside.data.toList.drop 24 = dktX2_beside_1 := dk_seg dksX2_beside_0 24 rfl rfl
theorem dksX2_beside_2 : cX2_beside.data.toList.drop 48 = dktX2_beside_2 := dk_seg dksX2_beside_1 24 rfl rfl
theorem dX2_beside_0 : decode cX2_beside 0 = .ok (.iload_n 1, 1) := dk_27 (dk_at dksX2_beside_0 0 rfl rfl)
theorem dX2_beside_1 : decode cX2_beside 1 = .ok (.aload_n 0, 1) := dk_42 (dk_at dksX2_beside_0 1 rfl rfl)
theorem dX2_beside_2 : decode cX2_beside 2 = .ok (.getfield 9, 3) := dk_180 0 9 (dk_at dksX2_beside_0 2 rfl rfl)
theorem dX2_beside_5 : decode cX2_beside 5 = .ok (.irem, 1) := dk_112 (dk_at dksX2_beside_0 5 rfl rfl)
theorem dX2_beside_6 : decode cX2_beside 6 = .ok (.getstatic 140, 3) := dk_178 0 140 (dk_at dksX2_beside_0 6 rfl rfl)
theorem dX2_beside_9 : decode cX2_beside 9 = .ok (.iload_n 2, 1) := dk_28 (dk_at dksX2_beside_0 9 rfl rfl)
theorem dX2_beside_10 : decode cX2_beside 10 = .ok (.iaload, 1) := dk_46 (dk_at dksX2_beside_0 10 rfl rfl)
theorem dX2_beside_11 : decode cX2_beside 11 = .ok (.iadd, 1) := dk_96 (dk_at dksX2_beside_0 11 rfl rfl)
theorem dX2_beside_12 : decode cX2_beside 12 = .ok (.istore_n 3, 1) := dk_62 (dk_at dksX2_beside_0 12 rfl rfl)
theorem dX2_beside_13 : decode cX2_beside 13 = .ok (.iload_n 1, 1) := dk_27 (dk_at dksX2_beside_0 13 rfl rfl)
theorem dX2_beside_14 : decode cX2_beside 14 = .ok (.aload_n 0, 1) := dk_42 (dk_at dksX2_beside_0 14 rfl rfl)
theorem dX2_beside_15 : decode cX2_beside 15 = .ok (.getfield 9, 3) := dk_180 0 9 (dk_at dksX2_beside_0 15 rfl rfl)
theorem dX2_beside_18 : decode cX2_beside 18 = .ok (.idiv, 1) := dk_108 (dk_at dksX2_beside_0 18 rfl rfl)
theorem dX2_beside_19 : decode cX2_beside 19 = .ok (.getstatic 143, 3) := dk_178 0 143 (dk_at dksX2_beside_0 19 rfl rfl)
theorem dX2_beside_22 : decode cX2_beside 22 = .ok (.iload_n 2, 1) := dk_28 (dk_at dksX2_beside_0 22 rfl rfl)
theorem dX2_beside_23 : decode cX2_beside 23 = .ok (.iaload, 1) := dk_46 (dk_at dksX2_beside_0 23 rfl rfl)
theorem dX2_beside_24 : decode cX2_beside 24 = .ok (.iadd, 1) := dk_96 (dk_at dksX2_beside_1 0 rfl rfl)
theorem dX2_beside_25 : decode cX2_beside 25 = .ok (.istore 4, 2) := dk_54 4 (dk_at dksX2_beside_1 1 rfl rfl)
theorem dX2_beside_27 : decode cX2_beside 27 = .ok (.iload_n 3, 1) := dk_29 (dk_at dksX2_beside_1 3 rfl rfl)
theorem dX2_beside_28 : decode cX2_beside 28 = .ok (.iconst 0, 1) := dk_3 (dk_at dksX2_beside_1 4 rfl rfl)
theorem dX2_beside_29 : decode cX2_beside 29 = .ok (.aload_n 0, 1) := dk_42 (dk_at dksX2_beside_1 5 rfl rfl)
theorem dX2_beside_30 : decode cX2_beside 30 = .ok (.getfield 9, 3) := dk_180 0 9 (dk_at dksX2_beside_1 6 rfl rfl)
theorem dX2_beside_33 : decode cX2_beside 33 = .ok (.iconst 1, 1) := dk_4 (dk_at dksX2_beside_1 9 rfl rfl)
theorem dX2_beside_34 : decode cX2_beside 34 = .ok (.isub, 1) := dk_100 (dk_at dksX2_beside_1 10 rfl rfl)
theorem dX2_beside_35 : decode cX2_beside 35 = .ok (.invokestatic 124, 3) := dk_184 0 124 (dk_at dksX2_beside_1 11 rfl rfl)
theorem dX2_beside_38 : decode cX2_beside 38 = .ok (.ifCond .eq 30, 3) := dk_153 0 30 (dk_at dksX2_beside_1 14 rfl rfl)
theorem dX2_beside_41 : decode cX2_beside 41 = .ok (.iload 4, 2) := dk_21 4 (dk_at dksX2_beside_1 17 rfl rfl)
theorem dX2_beside_43 : decode cX2_beside 43 = .ok (.iconst 0, 1) := dk_3 (dk_at dksX2_beside_1 19 rfl rfl)
theorem dX2_beside_44 : decode cX2_beside 44 = .ok (.aload_n 0, 1) := dk_42 (dk_at dksX2_beside_1 20 rfl rfl)
theorem dX2_beside_45 : decode cX2_beside 45 = .ok (.getfield 15, 3) := dk_180 0 15 (dk_at dksX2_beside_1 21 rfl rfl)
theorem dX2_beside_48 : decode cX2_beside 48 = .ok (.iconst 1, 1) := dk_4 (dk_at dksX2_beside_2 0 rfl rfl)
theorem dX2_beside_49 : decode cX2_beside 49 = .ok (.isub, 1) := dk_100 (dk_at dksX2_beside_2 1 rfl rfl)
theorem dX2_beside_50 : decode cX2_beside 50 = .ok (.invokestatic 124, 3) := dk_184 0 124 (dk_at dksX2_beside_2 2 rfl rfl)
theorem dX2_beside_53 : decode cX2_beside 53 = .ok (.ifCond .eq 15, 3) := dk_153 0 15 (dk_at dksX2_beside_2 5 rfl rfl)
theorem dX2_beside_56 : decode cX2_beside 56 = .ok (.aload_n 0, 1) := dk_42 (dk_at dksX2_beside_2 8 rfl rfl)
theorem dX2_beside_57 : decode cX2_beside 57 = .ok (.getfield 9, 3) := dk_180 0 9 (dk_at dksX2_beside_2 9 rfl rfl)
theorem dX2_beside_60 : decode cX2_beside 60 = .ok (.iload 4, 2) := dk_21 4 (dk_at dksX2_beside_2 12 rfl rfl)
theorem dX2_beside_62 : decode cX2_beside 62 = .ok (.imul, 1) := dk_104 (dk_at dksX2_beside_2 14 rfl rfl)
theorem dX2_beside_63 : decode cX2_beside 63 = .ok (.iload_n 3, 1) := dk_29 (dk_at dksX2_beside_2 15 rfl rfl)
theorem dX2_beside_64 : decode cX2_beside 64 = .ok (.iadd, 1) := dk_96 (dk_at dksX2_beside_2 16 rfl rfl)
theorem dX2_beside_65 : decode cX2_beside 65 = .ok (.goto 4, 3) := dk_167 0 4 (dk_at dksX2_beside_2 17 rfl rfl)
theorem dX2_beside_68 : decode cX2_beside 68 = .ok (.iconst (-1), 1) := dk_2 (dk_at dksX2_beside_2 20 rfl rfl)
theorem dX2_beside_69 : decode cX2_beside 69 = .ok (.ireturn, 1) := dk_172 (dk_at dksX2_beside_2 21 rfl rfl)
abbrev cX2_weight : ByteArray := prog_4_method_18_code
def yX2_weight : MethodName := ⟨RX2, "weight", "(LGrassPark$Walker;IILGrassPark$Habit;LGrassPark$Law;)I"⟩
def dkwX2_weight_4 : List UInt8 := [54, 6, 132, 7, 1, 167, 255, 170, 21, 6, 172]
abbrev dktX2_weight_4 : List UInt8 := dkwX2_weight_4 ++ []
def dkwX2_weight_3 : List UInt8 := [25, 8, 180, 0, 210, 42, 25, 8, 180, 0, 206, 43, 28, 29, 25, 4, 25, 5, 182, 0, 213, 104, 96]
abbrev dktX2_weight_3 : List UInt8 := dkwX2_weight_3 ++ dktX2_weight_4
def dkwX2_weight_2 : List UInt8 := [182, 0, 202, 154, 0, 6, 167, 0, 43, 25, 8, 180, 0, 206, 16, 7, 160, 0, 6, 18, 209, 172, 21, 6]
abbrev dktX2_weight_2 : List UInt8 := dkwX2_weight_2 ++ dktX2_weight_3
def dkwX2_weight_1 : List UInt8 := [162, 0, 79, 25, 4, 180, 0, 197, 21, 7, 182, 0, 101, 192, 0, 200, 58, 8, 25, 8, 42, 25, 5, 28]
abbrev dktX2_weight_1 : List UInt8 := dkwX2_weight_1 ++ dktX2_weight_2
def dkwX2_weight_0 : List UInt8 := [42, 28, 43, 180, 0, 191, 182, 0, 194, 54, 6, 3, 54, 7, 21, 7, 25, 4, 180, 0, 197, 182, 0, 64]
abbrev dktX2_weight_0 : List UInt8 := dkwX2_weight_0 ++ dktX2_weight_1
theorem dksX2_weight_0 : cX2_weight.data.toList.drop 0 = dktX2_weight_0 := by decide +kernel
theorem dksX2_weight_1 : cX2_weight.data.toList.drop 24 = dktX2_weight_1 := dk_seg dksX2_weight_0 24 rfl rfl
theorem dksX2_weight_2 : cX2_weight.data.toList.drop 48 = dktX2_weight_2 := dk_seg dksX2_weight_1 24 rfl rfl
theorem dksX2_weight_3 : cX2_weight.data.toList.drop 72 = dktX2_weight_3 := dk_seg dksX2_weight_2 24 rfl rfl
theorem dksX2_weight_4 : cX2_weight.data.toList.drop 95 = dktX2_weight_4 := dk_seg dksX2_weight_3 23 rfl rfl
theorem dX2_weight_0 : decode cX2_weight 0 = .ok (.aload_n 0, 1) := dk_42 (dk_at dksX2_weight_0 0 rfl rfl)
theorem dX2_weight_1 : decode cX2_weight 1 = .ok (.iload_n 2, 1) := dk_28 (dk_at dksX2_weight_0 1 rfl rfl)
theorem dX2_weight_2 : decode cX2_weight 2 = .ok (.aload_n 1, 1) := dk_43 (dk_at dksX2_weight_0 2 rfl rfl)
theorem dX2_weight_3 : decode cX2_weight 3 = .ok (.getfield 191, 3) := dk_180 0 191 (dk_at dksX2_weight_0 3 rfl rfl)
theorem dX2_weight_6 : decode cX2_weight 6 = .ok (.invokevirtual 194, 3) := dk_182 0 194 (dk_at dksX2_weight_0 6 rfl rfl)
theorem dX2_weight_9 : decode cX2_weight 9 = .ok (.istore 6, 2) := dk_54 6 (dk_at dksX2_weight_0 9 rfl rfl)
theorem dX2_weight_11 : decode cX2_weight 11 = .ok (.iconst 0, 1) := dk_3 (dk_at dksX2_weight_0 11 rfl rfl)
theorem dX2_weight_12 : decode cX2_weight 12 = .ok (.istore 7, 2) := dk_54 7 (dk_at dksX2_weight_0 12 rfl rfl)
theorem dX2_weight_14 : decode cX2_weight 14 = .ok (.iload 7, 2) := dk_21 7 (dk_at dksX2_weight_0 14 rfl rfl)
theorem dX2_weight_16 : decode cX2_weight 16 = .ok (.aload 4, 2) := dk_25 4 (dk_at dksX2_weight_0 16 rfl rfl)
theorem dX2_weight_18 : decode cX2_weight 18 = .ok (.getfield 197, 3) := dk_180 0 197 (dk_at dksX2_weight_0 18 rfl rfl)
theorem dX2_weight_21 : decode cX2_weight 21 = .ok (.invokevirtual 64, 3) := dk_182 0 64 (dk_at dksX2_weight_0 21 rfl rfl)
theorem dX2_weight_24 : decode cX2_weight 24 = .ok (.if_icmp .ge 79, 3) := dk_162 0 79 (dk_at dksX2_weight_1 0 rfl rfl)
theorem dX2_weight_27 : decode cX2_weight 27 = .ok (.aload 4, 2) := dk_25 4 (dk_at dksX2_weight_1 3 rfl rfl)
theorem dX2_weight_29 : decode cX2_weight 29 = .ok (.getfield 197, 3) := dk_180 0 197 (dk_at dksX2_weight_1 5 rfl rfl)
theorem dX2_weight_32 : decode cX2_weight 32 = .ok (.iload 7, 2) := dk_21 7 (dk_at dksX2_weight_1 8 rfl rfl)
theorem dX2_weight_34 : decode cX2_weight 34 = .ok (.invokevirtual 101, 3) := dk_182 0 101 (dk_at dksX2_weight_1 10 rfl rfl)
theorem dX2_weight_37 : decode cX2_weight 37 = .ok (.checkcast 200, 3) := dk_192 0 200 (dk_at dksX2_weight_1 13 rfl rfl)
theorem dX2_weight_40 : decode cX2_weight 40 = .ok (.astore 8, 2) := dk_58 8 (dk_at dksX2_weight_1 16 rfl rfl)
theorem dX2_weight_42 : decode cX2_weight 42 = .ok (.aload 8, 2) := dk_25 8 (dk_at dksX2_weight_1 18 rfl rfl)
theorem dX2_weight_44 : decode cX2_weight 44 = .ok (.aload_n 0, 1) := dk_42 (dk_at dksX2_weight_1 20 rfl rfl)
theorem dX2_weight_45 : decode cX2_weight 45 = .ok (.aload 5, 2) := dk_25 5 (dk_at dksX2_weight_1 21 rfl rfl)
theorem dX2_weight_47 : decode cX2_weight 47 = .ok (.iload_n 2, 1) := dk_28 (dk_at dksX2_weight_1 23 rfl rfl)
theorem dX2_weight_48 : decode cX2_weight 48 = .ok (.invokevirtual 202, 3) := dk_182 0 202 (dk_at dksX2_weight_2 0 rfl rfl)
theorem dX2_weight_51 : decode cX2_weight 51 = .ok (.ifCond .ne 6, 3) := dk_154 0 6 (dk_at dksX2_weight_2 3 rfl rfl)
theorem dX2_weight_54 : decode cX2_weight 54 = .ok (.goto 43, 3) := dk_167 0 43 (dk_at dksX2_weight_2 6 rfl rfl)
theorem dX2_weight_57 : decode cX2_weight 57 = .ok (.aload 8, 2) := dk_25 8 (dk_at dksX2_weight_2 9 rfl rfl)
theorem dX2_weight_59 : decode cX2_weight 59 = .ok (.getfield 206, 3) := dk_180 0 206 (dk_at dksX2_weight_2 11 rfl rfl)
theorem dX2_weight_62 : decode cX2_weight 62 = .ok (.bipush 7, 2) := dk_16 7 (dk_at dksX2_weight_2 14 rfl rfl)
theorem dX2_weight_64 : decode cX2_weight 64 = .ok (.if_icmp .ne 6, 3) := dk_160 0 6 (dk_at dksX2_weight_2 16 rfl rfl)
theorem dX2_weight_67 : decode cX2_weight 67 = .ok (.ldc 209, 2) := dk_18 209 (dk_at dksX2_weight_2 19 rfl rfl)
theorem dX2_weight_69 : decode cX2_weight 69 = .ok (.ireturn, 1) := dk_172 (dk_at dksX2_weight_2 21 rfl rfl)
theorem dX2_weight_70 : decode cX2_weight 70 = .ok (.iload 6, 2) := dk_21 6 (dk_at dksX2_weight_2 22 rfl rfl)
theorem dX2_weight_72 : decode cX2_weight 72 = .ok (.aload 8, 2) := dk_25 8 (dk_at dksX2_weight_3 0 rfl rfl)
theorem dX2_weight_74 : decode cX2_weight 74 = .ok (.getfield 210, 3) := dk_180 0 210 (dk_at dksX2_weight_3 2 rfl rfl)
theorem dX2_weight_77 : decode cX2_weight 77 = .ok (.aload_n 0, 1) := dk_42 (dk_at dksX2_weight_3 5 rfl rfl)
theorem dX2_weight_78 : decode cX2_weight 78 = .ok (.aload 8, 2) := dk_25 8 (dk_at dksX2_weight_3 6 rfl rfl)
theorem dX2_weight_80 : decode cX2_weight 80 = .ok (.getfield 206, 3) := dk_180 0 206 (dk_at dksX2_weight_3 8 rfl rfl)
theorem dX2_weight_83 : decode cX2_weight 83 = .ok (.aload_n 1, 1) := dk_43 (dk_at dksX2_weight_3 11 rfl rfl)
theorem dX2_weight_84 : decode cX2_weight 84 = .ok (.iload_n 2, 1) := dk_28 (dk_at dksX2_weight_3 12 rfl rfl)
theorem dX2_weight_85 : decode cX2_weight 85 = .ok (.iload_n 3, 1) := dk_29 (dk_at dksX2_weight_3 13 rfl rfl)
theorem dX2_weight_86 : decode cX2_weight 86 = .ok (.aload 4, 2) := dk_25 4 (dk_at dksX2_weight_3 14 rfl rfl)
theorem dX2_weight_88 : decode cX2_weight 88 = .ok (.aload 5, 2) := dk_25 5 (dk_at dksX2_weight_3 16 rfl rfl)
theorem dX2_weight_90 : decode cX2_weight 90 = .ok (.invokevirtual 213, 3) := dk_182 0 213 (dk_at dksX2_weight_3 18 rfl rfl)
theorem dX2_weight_93 : decode cX2_weight 93 = .ok (.imul, 1) := dk_104 (dk_at dksX2_weight_3 21 rfl rfl)
theorem dX2_weight_94 : decode cX2_weight 94 = .ok (.iadd, 1) := dk_96 (dk_at dksX2_weight_3 22 rfl rfl)
theorem dX2_weight_95 : decode cX2_weight 95 = .ok (.istore 6, 2) := dk_54 6 (dk_at dksX2_weight_4 0 rfl rfl)
theorem dX2_weight_97 : decode cX2_weight 97 = .ok (.iinc 7 1, 3) := dk_132 7 1 (dk_at dksX2_weight_4 2 rfl rfl)
theorem dX2_weight_100 : decode cX2_weight 100 = .ok (.goto (-86), 3) := dk_167 255 170 (dk_at dksX2_weight_4 5 rfl rfl)
theorem dX2_weight_103 : decode cX2_weight 103 = .ok (.iload 6, 2) := dk_21 6 (dk_at dksX2_weight_4 8 rfl rfl)
theorem dX2_weight_105 : decode cX2_weight 105 = .ok (.ireturn, 1) := dk_172 (dk_at dksX2_weight_4 10 rfl rfl)
abbrev cX2_far : ByteArray := prog_4_method_14_code
def yX2_far : MethodName := ⟨RX2, "far", "(II)I"⟩
def dkwX2_far_2 : List UInt8 := [184, 0, 159, 104, 96, 172]
abbrev dktX2_far_2 : List UInt8 := dkwX2_far_2 ++ []
def dkwX2_far_1 : List UInt8 := [42, 180, 0, 9, 108, 100, 184, 0, 149, 54, 4, 16, 10, 29, 21, 4, 184, 0, 155, 104, 7, 29, 21, 4]
abbrev dktX2_far_1 : List UInt8 := dkwX2_far_1 ++ dktX2_far_2
def dkwX2_far_0 : List UInt8 := [27, 42, 180, 0, 9, 112, 28, 42, 180, 0, 9, 112, 100, 184, 0, 149, 62, 27, 42, 180, 0, 9, 108, 28]
abbrev dktX2_far_0 : List UInt8 := dkwX2_far_0 ++ dktX2_far_1
theorem dksX2_far_0 : cX2_far.data.toList.drop 0 = dktX2_far_0 := by decide +kernel
theorem dksX2_far_1 : cX2_far.data.toList.drop 24 = dktX2_far_1 := dk_seg dksX2_far_0 24 rfl rfl
theorem dksX2_far_2 : cX2_far.data.toList.drop 48 = dktX2_far_2 := dk_seg dksX2_far_1 24 rfl rfl
theorem dX2_far_0 : decode cX2_far 0 = .ok (.iload_n 1, 1) := dk_27 (dk_at dksX2_far_0 0 rfl rfl)
theorem dX2_far_1 : decode cX2_far 1 = .ok (.aload_n 0, 1) := dk_42 (dk_at dksX2_far_0 1 rfl rfl)
theorem dX2_far_2 : decode cX2_far 2 = .ok (.getfield 9, 3) := dk_180 0 9 (dk_at dksX2_far_0 2 rfl rfl)
theorem dX2_far_5 : decode cX2_far 5 = .ok (.irem, 1) := dk_112 (dk_at dksX2_far_0 5 rfl rfl)
theorem dX2_far_6 : decode cX2_far 6 = .ok (.iload_n 2, 1) := dk_28 (dk_at dksX2_far_0 6 rfl rfl)
theorem dX2_far_7 : decode cX2_far 7 = .ok (.aload_n 0, 1) := dk_42 (dk_at dksX2_far_0 7 rfl rfl)
theorem dX2_far_8 : decode cX2_far 8 = .ok (.getfield 9, 3) := dk_180 0 9 (dk_at dksX2_far_0 8 rfl rfl)
theorem dX2_far_11 : decode cX2_far 11 = .ok (.irem, 1) := dk_112 (dk_at dksX2_far_0 11 rfl rfl)
theorem dX2_far_12 : decode cX2_far 12 = .ok (.isub, 1) := dk_100 (dk_at dksX2_far_0 12 rfl rfl)
theorem dX2_far_13 : decode cX2_far 13 = .ok (.invokestatic 149, 3) := dk_184 0 149 (dk_at dksX2_far_0 13 rfl rfl)
theorem dX2_far_16 : decode cX2_far 16 = .ok (.istore_n 3, 1) := dk_62 (dk_at dksX2_far_0 16 rfl rfl)
theorem dX2_far_17 : decode cX2_far 17 = .ok (.iload_n 1, 1) := dk_27 (dk_at dksX2_far_0 17 rfl rfl)
theorem dX2_far_18 : decode cX2_far 18 = .ok (.aload_n 0, 1) := dk_42 (dk_at dksX2_far_0 18 rfl rfl)
theorem dX2_far_19 : decode cX2_far 19 = .ok (.getfield 9, 3) := dk_180 0 9 (dk_at dksX2_far_0 19 rfl rfl)
theorem dX2_far_22 : decode cX2_far 22 = .ok (.idiv, 1) := dk_108 (dk_at dksX2_far_0 22 rfl rfl)
theorem dX2_far_23 : decode cX2_far 23 = .ok (.iload_n 2, 1) := dk_28 (dk_at dksX2_far_0 23 rfl rfl)
theorem dX2_far_24 : decode cX2_far 24 = .ok (.aload_n 0, 1) := dk_42 (dk_at dksX2_far_1 0 rfl rfl)
theorem dX2_far_25 : decode cX2_far 25 = .ok (.getfield 9, 3) := dk_180 0 9 (dk_at dksX2_far_1 1 rfl rfl)
theorem dX2_far_28 : decode cX2_far 28 = .ok (.idiv, 1) := dk_108 (dk_at dksX2_far_1 4 rfl rfl)
theorem dX2_far_29 : decode cX2_far 29 = .ok (.isub, 1) := dk_100 (dk_at dksX2_far_1 5 rfl rfl)
theorem dX2_far_30 : decode cX2_far 30 = .ok (.invokestatic 149, 3) := dk_184 0 149 (dk_at dksX2_far_1 6 rfl rfl)
theorem dX2_far_33 : decode cX2_far 33 = .ok (.istore 4, 2) := dk_54 4 (dk_at dksX2_far_1 9 rfl rfl)
theorem dX2_far_35 : decode cX2_far 35 = .ok (.bipush 10, 2) := dk_16 10 (dk_at dksX2_far_1 11 rfl rfl)
theorem dX2_far_37 : decode cX2_far 37 = .ok (.iload_n 3, 1) := dk_29 (dk_at dksX2_far_1 13 rfl rfl)
theorem dX2_far_38 : decode cX2_far 38 = .ok (.iload 4, 2) := dk_21 4 (dk_at dksX2_far_1 14 rfl rfl)
theorem dX2_far_40 : decode cX2_far 40 = .ok (.invokestatic 155, 3) := dk_184 0 155 (dk_at dksX2_far_1 16 rfl rfl)
theorem dX2_far_43 : decode cX2_far 43 = .ok (.imul, 1) := dk_104 (dk_at dksX2_far_1 19 rfl rfl)
theorem dX2_far_44 : decode cX2_far 44 = .ok (.iconst 4, 1) := dk_7 (dk_at dksX2_far_1 20 rfl rfl)
theorem dX2_far_45 : decode cX2_far 45 = .ok (.iload_n 3, 1) := dk_29 (dk_at dksX2_far_1 21 rfl rfl)
theorem dX2_far_46 : decode cX2_far 46 = .ok (.iload 4, 2) := dk_21 4 (dk_at dksX2_far_1 22 rfl rfl)
theorem dX2_far_48 : decode cX2_far 48 = .ok (.invokestatic 159, 3) := dk_184 0 159 (dk_at dksX2_far_2 0 rfl rfl)
theorem dX2_far_51 : decode cX2_far 51 = .ok (.imul, 1) := dk_104 (dk_at dksX2_far_2 3 rfl rfl)
theorem dX2_far_52 : decode cX2_far 52 = .ok (.iadd, 1) := dk_96 (dk_at dksX2_far_2 4 rfl rfl)
theorem dX2_far_53 : decode cX2_far 53 = .ok (.ireturn, 1) := dk_172 (dk_at dksX2_far_2 5 rfl rfl)
abbrev cX2_isMuddy : ByteArray := prog_4_method_10_code
def yX2_isMuddy : MethodName := ⟨RX2, "isMuddy", "(LGrassPark$Law;I)Z"⟩
def dkwX2_isMuddy_1 : List UInt8 := [167, 0, 4, 3, 172]
abbrev dktX2_isMuddy_1 : List UInt8 := dkwX2_isMuddy_1 ++ []
def dkwX2_isMuddy_0 : List UInt8 := [42, 43, 28, 182, 0, 133, 153, 0, 20, 42, 180, 0, 28, 28, 46, 43, 180, 0, 137, 161, 0, 7, 4]
abbrev dktX2_isMuddy_0 : List UInt8 := dkwX2_isMuddy_0 ++ dktX2_isMuddy_1
theorem dksX2_isMuddy_0 : cX2_isMuddy.data.toList.drop 0 = dktX2_isMuddy_0 := by decide +kernel
theorem dksX2_isMuddy_1 : cX2_isMuddy.data.toList.drop 23 = dktX2_isMuddy_1 := dk_seg dksX2_isMuddy_0 23 rfl rfl
theorem dX2_isMuddy_0 : decode cX2_isMuddy 0 = .ok (.aload_n 0, 1) := dk_42 (dk_at dksX2_isMuddy_0 0 rfl rfl)
theorem dX2_isMuddy_1 : decode cX2_isMuddy 1 = .ok (.aload_n 1, 1) := dk_43 (dk_at dksX2_isMuddy_0 1 rfl rfl)
theorem dX2_isMuddy_2 : decode cX2_isMuddy 2 = .ok (.iload_n 2, 1) := dk_28 (dk_at dksX2_isMuddy_0 2 rfl rfl)
theorem dX2_isMuddy_3 : decode cX2_isMuddy 3 = .ok (.invokevirtual 133, 3) := dk_182 0 133 (dk_at dksX2_isMuddy_0 3 rfl rfl)
theorem dX2_isMuddy_6 : decode cX2_isMuddy 6 = .ok (.ifCond .eq 20, 3) := dk_153 0 20 (dk_at dksX2_isMuddy_0 6 rfl rfl)
theorem dX2_isMuddy_9 : decode cX2_isMuddy 9 = .ok (.aload_n 0, 1) := dk_42 (dk_at dksX2_isMuddy_0 9 rfl rfl)
theorem dX2_isMuddy_10 : decode cX2_isMuddy 10 = .ok (.getfield 28, 3) := dk_180 0 28 (dk_at dksX2_isMuddy_0 10 rfl rfl)
theorem dX2_isMuddy_13 : decode cX2_isMuddy 13 = .ok (.iload_n 2, 1) := dk_28 (dk_at dksX2_isMuddy_0 13 rfl rfl)
theorem dX2_isMuddy_14 : decode cX2_isMuddy 14 = .ok (.iaload, 1) := dk_46 (dk_at dksX2_isMuddy_0 14 rfl rfl)
theorem dX2_isMuddy_15 : decode cX2_isMuddy 15 = .ok (.aload_n 1, 1) := dk_43 (dk_at dksX2_isMuddy_0 15 rfl rfl)
theorem dX2_isMuddy_16 : decode cX2_isMuddy 16 = .ok (.getfield 137, 3) := dk_180 0 137 (dk_at dksX2_isMuddy_0 16 rfl rfl)
theorem dX2_isMuddy_19 : decode cX2_isMuddy 19 = .ok (.if_icmp .lt 7, 3) := dk_161 0 7 (dk_at dksX2_isMuddy_0 19 rfl rfl)
theorem dX2_isMuddy_22 : decode cX2_isMuddy 22 = .ok (.iconst 1, 1) := dk_4 (dk_at dksX2_isMuddy_0 22 rfl rfl)
theorem dX2_isMuddy_23 : decode cX2_isMuddy 23 = .ok (.goto 4, 3) := dk_167 0 4 (dk_at dksX2_isMuddy_1 0 rfl rfl)
theorem dX2_isMuddy_26 : decode cX2_isMuddy 26 = .ok (.iconst 0, 1) := dk_3 (dk_at dksX2_isMuddy_1 3 rfl rfl)
theorem dX2_isMuddy_27 : decode cX2_isMuddy 27 = .ok (.ireturn, 1) := dk_172 (dk_at dksX2_isMuddy_1 4 rfl rfl)
abbrev cX2_isWorn : ByteArray := prog_4_method_9_code
def yX2_isWorn : MethodName := ⟨RX2, "isWorn", "(LGrassPark$Law;I)Z"⟩
def dkwX2_isWorn_0 : List UInt8 := [42, 180, 0, 25, 28, 46, 43, 180, 0, 128, 161, 0, 7, 4, 167, 0, 4, 3, 172]
abbrev dktX2_isWorn_0 : List UInt8 := dkwX2_isWorn_0 ++ []
theorem dksX2_isWorn_0 : cX2_isWorn.data.toList.drop 0 = dktX2_isWorn_0 := by decide +kernel
theorem dX2_isWorn_0 : decode cX2_isWorn 0 = .ok (.aload_n 0, 1) := dk_42 (dk_at dksX2_isWorn_0 0 rfl rfl)
theorem dX2_isWorn_1 : decode cX2_isWorn 1 = .ok (.getfield 25, 3) := dk_180 0 25 (dk_at dksX2_isWorn_0 1 rfl rfl)
theorem dX2_isWorn_4 : decode cX2_isWorn 4 = .ok (.iload_n 2, 1) := dk_28 (dk_at dksX2_isWorn_0 4 rfl rfl)
theorem dX2_isWorn_5 : decode cX2_isWorn 5 = .ok (.iaload, 1) := dk_46 (dk_at dksX2_isWorn_0 5 rfl rfl)
theorem dX2_isWorn_6 : decode cX2_isWorn 6 = .ok (.aload_n 1, 1) := dk_43 (dk_at dksX2_isWorn_0 6 rfl rfl)
theorem dX2_isWorn_7 : decode cX2_isWorn 7 = .ok (.getfield 128, 3) := dk_180 0 128 (dk_at dksX2_isWorn_0 7 rfl rfl)
theorem dX2_isWorn_10 : decode cX2_isWorn 10 = .ok (.if_icmp .lt 7, 3) := dk_161 0 7 (dk_at dksX2_isWorn_0 10 rfl rfl)
theorem dX2_isWorn_13 : decode cX2_isWorn 13 = .ok (.iconst 1, 1) := dk_4 (dk_at dksX2_isWorn_0 13 rfl rfl)
theorem dX2_isWorn_14 : decode cX2_isWorn 14 = .ok (.goto 4, 3) := dk_167 0 4 (dk_at dksX2_isWorn_0 14 rfl rfl)
theorem dX2_isWorn_17 : decode cX2_isWorn 17 = .ok (.iconst 0, 1) := dk_3 (dk_at dksX2_isWorn_0 17 rfl rfl)
theorem dX2_isWorn_18 : decode cX2_isWorn 18 = .ok (.ireturn, 1) := dk_172 (dk_at dksX2_isWorn_0 18 rfl rfl)
abbrev cX2_measure : ByteArray := prog_4_method_17_code
def yX2_measure : MethodName := ⟨RX2, "measure", "(ILGrassPark$Walker;IILGrassPark$Habit;LGrassPark$Law;)I"⟩
def dkwX2_measure_7 : List UInt8 := [25, 5, 180, 0, 182, 25, 6, 182, 0, 187, 116, 172]
abbrev dktX2_measure_7 : List UInt8 := dkwX2_measure_7 ++ []
def dkwX2_measure_6 : List UInt8 := [167, 0, 4, 3, 172, 29, 44, 180, 0, 179, 160, 0, 7, 4, 167, 0, 4, 3, 172, 42, 29, 21, 4]
abbrev dktX2_measure_6 : List UInt8 := dkwX2_measure_6 ++ dktX2_measure_7
def dkwX2_measure_5 : List UInt8 := [182, 0, 172, 172, 44, 180, 0, 176, 2, 159, 0, 16, 44, 180, 0, 176, 21, 4, 159, 0, 7, 4]
abbrev dktX2_measure_5 : List UInt8 := dkwX2_measure_5 ++ dktX2_measure_6
def dkwX2_measure_4 : List UInt8 := [42, 180, 0, 22, 29, 46, 42, 180, 0, 22, 44, 180, 0, 146, 46, 100, 184, 0, 149, 172, 42, 29, 44]
abbrev dktX2_measure_4 : List UInt8 := dkwX2_measure_4 ++ dktX2_measure_5
def dkwX2_measure_3 : List UInt8 := [180, 0, 25, 29, 46, 100, 16, 10, 108, 167, 0, 4, 3, 172, 42, 180, 0, 28, 29, 46, 16, 10, 108, 172]
abbrev dktX2_measure_3 : List UInt8 := dkwX2_measure_3 ++ dktX2_measure_4
def dkwX2_measure_2 : List UInt8 := [42, 29, 182, 0, 169, 153, 0, 31, 42, 25, 6, 29, 182, 0, 133, 154, 0, 21, 25, 6, 180, 0, 128, 42]
abbrev dktX2_measure_2 : List UInt8 := dkwX2_measure_2 ++ dktX2_measure_3
def dkwX2_measure_1 : List UInt8 := [170, 0, 0, 0, 0, 0, 151, 0, 0, 0, 0, 0, 0, 0, 5, 0, 0, 0, 39, 0, 0, 0, 77, 0, 0, 0, 87, 0, 0, 0, 107, 0, 0, 0, 114, 0, 0, 0, 137]
abbrev dktX2_measure_1 : List UInt8 := dkwX2_measure_1 ++ dktX2_measure_2
def dkwX2_measure_0 : List UInt8 := [27]
abbrev dktX2_measure_0 : List UInt8 := dkwX2_measure_0 ++ dktX2_measure_1
theorem dksX2_measure_0 : cX2_measure.data.toList.drop 0 = dktX2_measure_0 := by decide +kernel
theorem dksX2_measure_1 : cX2_measure.data.toList.drop 1 = dktX2_measure_1 := dk_seg dksX2_measure_0 1 rfl rfl
theorem dksX2_measure_2 : cX2_measure.data.toList.drop 40 = dktX2_measure_2 := dk_seg dksX2_measure_1 39 rfl rfl
theorem dksX2_measure_3 : cX2_measure.data.toList.drop 64 = dktX2_measure_3 := dk_seg dksX2_measure_2 24 rfl rfl
theorem dksX2_measure_4 : cX2_measure.data.toList.drop 88 = dktX2_measure_4 := dk_seg dksX2_measure_3 24 rfl rfl
theorem dksX2_measure_5 : cX2_measure.data.toList.drop 111 = dktX2_measure_5 := dk_seg dksX2_measure_4 23 rfl rfl
theorem dksX2_measure_6 : cX2_measure.data.toList.drop 133 = dktX2_measure_6 := dk_seg dksX2_measure_5 22 rfl rfl
theorem dksX2_measure_7 : cX2_measure.data.toList.drop 156 = dktX2_measure_7 := dk_seg dksX2_measure_6 23 rfl rfl
theorem dX2_measure_0 : decode cX2_measure 0 = .ok (.iload_n 1, 1) := dk_27 (dk_at dksX2_measure_0 0 rfl rfl)
theorem dX2_measure_1 : decode cX2_measure 1 = .ok (.tableswitch 151 0 5 #[39, 77, 87, 107, 114, 137], 39) := by decide +kernel
theorem dX2_measure_40 : decode cX2_measure 40 = .ok (.aload_n 0, 1) := dk_42 (dk_at dksX2_measure_2 0 rfl rfl)
theorem dX2_measure_41 : decode cX2_measure 41 = .ok (.iload_n 3, 1) := dk_29 (dk_at dksX2_measure_2 1 rfl rfl)
theorem dX2_measure_42 : decode cX2_measure 42 = .ok (.invokevirtual 169, 3) := dk_182 0 169 (dk_at dksX2_measure_2 2 rfl rfl)
theorem dX2_measure_45 : decode cX2_measure 45 = .ok (.ifCond .eq 31, 3) := dk_153 0 31 (dk_at dksX2_measure_2 5 rfl rfl)
theorem dX2_measure_48 : decode cX2_measure 48 = .ok (.aload_n 0, 1) := dk_42 (dk_at dksX2_measure_2 8 rfl rfl)
theorem dX2_measure_49 : decode cX2_measure 49 = .ok (.aload 6, 2) := dk_25 6 (dk_at dksX2_measure_2 9 rfl rfl)
theorem dX2_measure_51 : decode cX2_measure 51 = .ok (.iload_n 3, 1) := dk_29 (dk_at dksX2_measure_2 11 rfl rfl)
theorem dX2_measure_52 : decode cX2_measure 52 = .ok (.invokevirtual 133, 3) := dk_182 0 133 (dk_at dksX2_measure_2 12 rfl rfl)
theorem dX2_measure_55 : decode cX2_measure 55 = .ok (.ifCond .ne 21, 3) := dk_154 0 21 (dk_at dksX2_measure_2 15 rfl rfl)
theorem dX2_measure_58 : decode cX2_measure 58 = .ok (.aload 6, 2) := dk_25 6 (dk_at dksX2_measure_2 18 rfl rfl)
theorem dX2_measure_60 : decode cX2_measure 60 = .ok (.getfield 128, 3) := dk_180 0 128 (dk_at dksX2_measure_2 20 rfl rfl)
theorem dX2_measure_63 : decode cX2_measure 63 = .ok (.aload_n 0, 1) := dk_42 (dk_at dksX2_measure_2 23 rfl rfl)
theorem dX2_measure_64 : decode cX2_measure 64 = .ok (.getfield 25, 3) := dk_180 0 25 (dk_at dksX2_measure_3 0 rfl rfl)
theorem dX2_measure_67 : decode cX2_measure 67 = .ok (.iload_n 3, 1) := dk_29 (dk_at dksX2_measure_3 3 rfl rfl)
theorem dX2_measure_68 : decode cX2_measure 68 = .ok (.iaload, 1) := dk_46 (dk_at dksX2_measure_3 4 rfl rfl)
theorem dX2_measure_69 : decode cX2_measure 69 = .ok (.isub, 1) := dk_100 (dk_at dksX2_measure_3 5 rfl rfl)
theorem dX2_measure_70 : decode cX2_measure 70 = .ok (.bipush 10, 2) := dk_16 10 (dk_at dksX2_measure_3 6 rfl rfl)
theorem dX2_measure_72 : decode cX2_measure 72 = .ok (.idiv, 1) := dk_108 (dk_at dksX2_measure_3 8 rfl rfl)
theorem dX2_measure_73 : decode cX2_measure 73 = .ok (.goto 4, 3) := dk_167 0 4 (dk_at dksX2_measure_3 9 rfl rfl)
theorem dX2_measure_76 : decode cX2_measure 76 = .ok (.iconst 0, 1) := dk_3 (dk_at dksX2_measure_3 12 rfl rfl)
theorem dX2_measure_77 : decode cX2_measure 77 = .ok (.ireturn, 1) := dk_172 (dk_at dksX2_measure_3 13 rfl rfl)
theorem dX2_measure_78 : decode cX2_measure 78 = .ok (.aload_n 0, 1) := dk_42 (dk_at dksX2_measure_3 14 rfl rfl)
theorem dX2_measure_79 : decode cX2_measure 79 = .ok (.getfield 28, 3) := dk_180 0 28 (dk_at dksX2_measure_3 15 rfl rfl)
theorem dX2_measure_82 : decode cX2_measure 82 = .ok (.iload_n 3, 1) := dk_29 (dk_at dksX2_measure_3 18 rfl rfl)
theorem dX2_measure_83 : decode cX2_measure 83 = .ok (.iaload, 1) := dk_46 (dk_at dksX2_measure_3 19 rfl rfl)
theorem dX2_measure_84 : decode cX2_measure 84 = .ok (.bipush 10, 2) := dk_16 10 (dk_at dksX2_measure_3 20 rfl rfl)
theorem dX2_measure_86 : decode cX2_measure 86 = .ok (.idiv, 1) := dk_108 (dk_at dksX2_measure_3 22 rfl rfl)
theorem dX2_measure_87 : decode cX2_measure 87 = .ok (.ireturn, 1) := dk_172 (dk_at dksX2_measure_3 23 rfl rfl)
theorem dX2_measure_88 : decode cX2_measure 88 = .ok (.aload_n 0, 1) := dk_42 (dk_at dksX2_measure_4 0 rfl rfl)
theorem dX2_measure_89 : decode cX2_measure 89 = .ok (.getfield 22, 3) := dk_180 0 22 (dk_at dksX2_measure_4 1 rfl rfl)
theorem dX2_measure_92 : decode cX2_measure 92 = .ok (.iload_n 3, 1) := dk_29 (dk_at dksX2_measure_4 4 rfl rfl)
theorem dX2_measure_93 : decode cX2_measure 93 = .ok (.iaload, 1) := dk_46 (dk_at dksX2_measure_4 5 rfl rfl)
theorem dX2_measure_94 : decode cX2_measure 94 = .ok (.aload_n 0, 1) := dk_42 (dk_at dksX2_measure_4 6 rfl rfl)
theorem dX2_measure_95 : decode cX2_measure 95 = .ok (.getfield 22, 3) := dk_180 0 22 (dk_at dksX2_measure_4 7 rfl rfl)
theorem dX2_measure_98 : decode cX2_measure 98 = .ok (.aload_n 2, 1) := dk_44 (dk_at dksX2_measure_4 10 rfl rfl)
theorem dX2_measure_99 : decode cX2_measure 99 = .ok (.getfield 146, 3) := dk_180 0 146 (dk_at dksX2_measure_4 11 rfl rfl)
theorem dX2_measure_102 : decode cX2_measure 102 = .ok (.iaload, 1) := dk_46 (dk_at dksX2_measure_4 14 rfl rfl)
theorem dX2_measure_103 : decode cX2_measure 103 = .ok (.isub, 1) := dk_100 (dk_at dksX2_measure_4 15 rfl rfl)
theorem dX2_measure_104 : decode cX2_measure 104 = .ok (.invokestatic 149, 3) := dk_184 0 149 (dk_at dksX2_measure_4 16 rfl rfl)
theorem dX2_measure_107 : decode cX2_measure 107 = .ok (.ireturn, 1) := dk_172 (dk_at dksX2_measure_4 19 rfl rfl)
theorem dX2_measure_108 : decode cX2_measure 108 = .ok (.aload_n 0, 1) := dk_42 (dk_at dksX2_measure_4 20 rfl rfl)
theorem dX2_measure_109 : decode cX2_measure 109 = .ok (.iload_n 3, 1) := dk_29 (dk_at dksX2_measure_4 21 rfl rfl)
theorem dX2_measure_110 : decode cX2_measure 110 = .ok (.aload_n 2, 1) := dk_44 (dk_at dksX2_measure_4 22 rfl rfl)
theorem dX2_measure_111 : decode cX2_measure 111 = .ok (.invokevirtual 172, 3) := dk_182 0 172 (dk_at dksX2_measure_5 0 rfl rfl)
theorem dX2_measure_114 : decode cX2_measure 114 = .ok (.ireturn, 1) := dk_172 (dk_at dksX2_measure_5 3 rfl rfl)
theorem dX2_measure_115 : decode cX2_measure 115 = .ok (.aload_n 2, 1) := dk_44 (dk_at dksX2_measure_5 4 rfl rfl)
theorem dX2_measure_116 : decode cX2_measure 116 = .ok (.getfield 176, 3) := dk_180 0 176 (dk_at dksX2_measure_5 5 rfl rfl)
theorem dX2_measure_119 : decode cX2_measure 119 = .ok (.iconst (-1), 1) := dk_2 (dk_at dksX2_measure_5 8 rfl rfl)
theorem dX2_measure_120 : decode cX2_measure 120 = .ok (.if_icmp .eq 16, 3) := dk_159 0 16 (dk_at dksX2_measure_5 9 rfl rfl)
theorem dX2_measure_123 : decode cX2_measure 123 = .ok (.aload_n 2, 1) := dk_44 (dk_at dksX2_measure_5 12 rfl rfl)
theorem dX2_measure_124 : decode cX2_measure 124 = .ok (.getfield 176, 3) := dk_180 0 176 (dk_at dksX2_measure_5 13 rfl rfl)
theorem dX2_measure_127 : decode cX2_measure 127 = .ok (.iload 4, 2) := dk_21 4 (dk_at dksX2_measure_5 16 rfl rfl)
theorem dX2_measure_129 : decode cX2_measure 129 = .ok (.if_icmp .eq 7, 3) := dk_159 0 7 (dk_at dksX2_measure_5 18 rfl rfl)
theorem dX2_measure_132 : decode cX2_measure 132 = .ok (.iconst 1, 1) := dk_4 (dk_at dksX2_measure_5 21 rfl rfl)
theorem dX2_measure_133 : decode cX2_measure 133 = .ok (.goto 4, 3) := dk_167 0 4 (dk_at dksX2_measure_6 0 rfl rfl)
theorem dX2_measure_136 : decode cX2_measure 136 = .ok (.iconst 0, 1) := dk_3 (dk_at dksX2_measure_6 3 rfl rfl)
theorem dX2_measure_137 : decode cX2_measure 137 = .ok (.ireturn, 1) := dk_172 (dk_at dksX2_measure_6 4 rfl rfl)
theorem dX2_measure_138 : decode cX2_measure 138 = .ok (.iload_n 3, 1) := dk_29 (dk_at dksX2_measure_6 5 rfl rfl)
theorem dX2_measure_139 : decode cX2_measure 139 = .ok (.aload_n 2, 1) := dk_44 (dk_at dksX2_measure_6 6 rfl rfl)
theorem dX2_measure_140 : decode cX2_measure 140 = .ok (.getfield 179, 3) := dk_180 0 179 (dk_at dksX2_measure_6 7 rfl rfl)
theorem dX2_measure_143 : decode cX2_measure 143 = .ok (.if_icmp .ne 7, 3) := dk_160 0 7 (dk_at dksX2_measure_6 10 rfl rfl)
theorem dX2_measure_146 : decode cX2_measure 146 = .ok (.iconst 1, 1) := dk_4 (dk_at dksX2_measure_6 13 rfl rfl)
theorem dX2_measure_147 : decode cX2_measure 147 = .ok (.goto 4, 3) := dk_167 0 4 (dk_at dksX2_measure_6 14 rfl rfl)
theorem dX2_measure_150 : decode cX2_measure 150 = .ok (.iconst 0, 1) := dk_3 (dk_at dksX2_measure_6 17 rfl rfl)
theorem dX2_measure_151 : decode cX2_measure 151 = .ok (.ireturn, 1) := dk_172 (dk_at dksX2_measure_6 18 rfl rfl)
theorem dX2_measure_152 : decode cX2_measure 152 = .ok (.aload_n 0, 1) := dk_42 (dk_at dksX2_measure_6 19 rfl rfl)
theorem dX2_measure_153 : decode cX2_measure 153 = .ok (.iload_n 3, 1) := dk_29 (dk_at dksX2_measure_6 20 rfl rfl)
theorem dX2_measure_154 : decode cX2_measure 154 = .ok (.iload 4, 2) := dk_21 4 (dk_at dksX2_measure_6 21 rfl rfl)
theorem dX2_measure_156 : decode cX2_measure 156 = .ok (.aload 5, 2) := dk_25 5 (dk_at dksX2_measure_7 0 rfl rfl)
theorem dX2_measure_158 : decode cX2_measure 158 = .ok (.getfield 182, 3) := dk_180 0 182 (dk_at dksX2_measure_7 2 rfl rfl)
theorem dX2_measure_161 : decode cX2_measure 161 = .ok (.aload 6, 2) := dk_25 6 (dk_at dksX2_measure_7 5 rfl rfl)
theorem dX2_measure_163 : decode cX2_measure 163 = .ok (.invokevirtual 187, 3) := dk_182 0 187 (dk_at dksX2_measure_7 7 rfl rfl)
theorem dX2_measure_166 : decode cX2_measure 166 = .ok (.ineg, 1) := dk_116 (dk_at dksX2_measure_7 10 rfl rfl)
theorem dX2_measure_167 : decode cX2_measure 167 = .ok (.ireturn, 1) := dk_172 (dk_at dksX2_measure_7 11 rfl rfl)
abbrev cX2_isSoft : ByteArray := prog_4_method_8_code
def yX2_isSoft : MethodName := ⟨RX2, "isSoft", "(I)Z"⟩
def dkwX2_isSoft_1 : List UInt8 := [172]
abbrev dktX2_isSoft_1 : List UInt8 := dkwX2_isSoft_1 ++ []
def dkwX2_isSoft_0 : List UInt8 := [42, 180, 0, 18, 27, 46, 153, 0, 13, 42, 180, 0, 18, 27, 46, 5, 160, 0, 7, 4, 167, 0, 4, 3]
abbrev dktX2_isSoft_0 : List UInt8 := dkwX2_isSoft_0 ++ dktX2_isSoft_1
theorem dksX2_isSoft_0 : cX2_isSoft.data.toList.drop 0 = dktX2_isSoft_0 := by decide +kernel
theorem dksX2_isSoft_1 : cX2_isSoft.data.toList.drop 24 = dktX2_isSoft_1 := dk_seg dksX2_isSoft_0 24 rfl rfl
theorem dX2_isSoft_0 : decode cX2_isSoft 0 = .ok (.aload_n 0, 1) := dk_42 (dk_at dksX2_isSoft_0 0 rfl rfl)
theorem dX2_isSoft_1 : decode cX2_isSoft 1 = .ok (.getfield 18, 3) := dk_180 0 18 (dk_at dksX2_isSoft_0 1 rfl rfl)
theorem dX2_isSoft_4 : decode cX2_isSoft 4 = .ok (.iload_n 1, 1) := dk_27 (dk_at dksX2_isSoft_0 4 rfl rfl)
theorem dX2_isSoft_5 : decode cX2_isSoft 5 = .ok (.iaload, 1) := dk_46 (dk_at dksX2_isSoft_0 5 rfl rfl)
theorem dX2_isSoft_6 : decode cX2_isSoft 6 = .ok (.ifCond .eq 13, 3) := dk_153 0 13 (dk_at dksX2_isSoft_0 6 rfl rfl)
theorem dX2_isSoft_9 : decode cX2_isSoft 9 = .ok (.aload_n 0, 1) := dk_42 (dk_at dksX2_isSoft_0 9 rfl rfl)
theorem dX2_isSoft_10 : decode cX2_isSoft 10 = .ok (.getfield 18, 3) := dk_180 0 18 (dk_at dksX2_isSoft_0 10 rfl rfl)
theorem dX2_isSoft_13 : decode cX2_isSoft 13 = .ok (.iload_n 1, 1) := dk_27 (dk_at dksX2_isSoft_0 13 rfl rfl)
theorem dX2_isSoft_14 : decode cX2_isSoft 14 = .ok (.iaload, 1) := dk_46 (dk_at dksX2_isSoft_0 14 rfl rfl)
theorem dX2_isSoft_15 : decode cX2_isSoft 15 = .ok (.iconst 2, 1) := dk_5 (dk_at dksX2_isSoft_0 15 rfl rfl)
theorem dX2_isSoft_16 : decode cX2_isSoft 16 = .ok (.if_icmp .ne 7, 3) := dk_160 0 7 (dk_at dksX2_isSoft_0 16 rfl rfl)
theorem dX2_isSoft_19 : decode cX2_isSoft 19 = .ok (.iconst 1, 1) := dk_4 (dk_at dksX2_isSoft_0 19 rfl rfl)
theorem dX2_isSoft_20 : decode cX2_isSoft 20 = .ok (.goto 4, 3) := dk_167 0 4 (dk_at dksX2_isSoft_0 20 rfl rfl)
theorem dX2_isSoft_23 : decode cX2_isSoft 23 = .ok (.iconst 0, 1) := dk_3 (dk_at dksX2_isSoft_0 23 rfl rfl)
theorem dX2_isSoft_24 : decode cX2_isSoft 24 = .ok (.ireturn, 1) := dk_172 (dk_at dksX2_isSoft_1 0 rfl rfl)
abbrev cX2_others : ByteArray := prog_4_method_15_code
def yX2_others : MethodName := ⟨RX2, "others", "(ILGrassPark$Walker;)I"⟩
def dkwX2_others_2 : List UInt8 := [132, 3, 1, 132, 4, 1, 167, 255, 209, 29, 172]
abbrev dktX2_others_2 : List UInt8 := dkwX2_others_2 ++ []
def dkwX2_others_1 : List UInt8 := [182, 0, 101, 192, 0, 61, 58, 5, 25, 5, 44, 165, 0, 15, 25, 5, 180, 0, 146, 27, 160, 0, 6]
abbrev dktX2_others_1 : List UInt8 := dkwX2_others_1 ++ dktX2_others_2
def dkwX2_others_0 : List UInt8 := [3, 62, 3, 54, 4, 21, 4, 42, 180, 0, 51, 182, 0, 64, 162, 0, 41, 42, 180, 0, 51, 21, 4]
abbrev dktX2_others_0 : List UInt8 := dkwX2_others_0 ++ dktX2_others_1
theorem dksX2_others_0 : cX2_others.data.toList.drop 0 = dktX2_others_0 := by decide +kernel
theorem dksX2_others_1 : cX2_others.data.toList.drop 23 = dktX2_others_1 := dk_seg dksX2_others_0 23 rfl rfl
theorem dksX2_others_2 : cX2_others.data.toList.drop 46 = dktX2_others_2 := dk_seg dksX2_others_1 23 rfl rfl
theorem dX2_others_0 : decode cX2_others 0 = .ok (.iconst 0, 1) := dk_3 (dk_at dksX2_others_0 0 rfl rfl)
theorem dX2_others_1 : decode cX2_others 1 = .ok (.istore_n 3, 1) := dk_62 (dk_at dksX2_others_0 1 rfl rfl)
theorem dX2_others_2 : decode cX2_others 2 = .ok (.iconst 0, 1) := dk_3 (dk_at dksX2_others_0 2 rfl rfl)
theorem dX2_others_3 : decode cX2_others 3 = .ok (.istore 4, 2) := dk_54 4 (dk_at dksX2_others_0 3 rfl rfl)
theorem dX2_others_5 : decode cX2_others 5 = .ok (.iload 4, 2) := dk_21 4 (dk_at dksX2_others_0 5 rfl rfl)
theorem dX2_others_7 : decode cX2_others 7 = .ok (.aload_n 0, 1) := dk_42 (dk_at dksX2_others_0 7 rfl rfl)
theorem dX2_others_8 : decode cX2_others 8 = .ok (.getfield 51, 3) := dk_180 0 51 (dk_at dksX2_others_0 8 rfl rfl)
theorem dX2_others_11 : decode cX2_others 11 = .ok (.invokevirtual 64, 3) := dk_182 0 64 (dk_at dksX2_others_0 11 rfl rfl)
theorem dX2_others_14 : decode cX2_others 14 = .ok (.if_icmp .ge 41, 3) := dk_162 0 41 (dk_at dksX2_others_0 14 rfl rfl)
theorem dX2_others_17 : decode cX2_others 17 = .ok (.aload_n 0, 1) := dk_42 (dk_at dksX2_others_0 17 rfl rfl)
theorem dX2_others_18 : decode cX2_others 18 = .ok (.getfield 51, 3) := dk_180 0 51 (dk_at dksX2_others_0 18 rfl rfl)
theorem dX2_others_21 : decode cX2_others 21 = .ok (.iload 4, 2) := dk_21 4 (dk_at dksX2_others_0 21 rfl rfl)
theorem dX2_others_23 : decode cX2_others 23 = .ok (.invokevirtual 101, 3) := dk_182 0 101 (dk_at dksX2_others_1 0 rfl rfl)
theorem dX2_others_26 : decode cX2_others 26 = .ok (.checkcast 61, 3) := dk_192 0 61 (dk_at dksX2_others_1 3 rfl rfl)
theorem dX2_others_29 : decode cX2_others 29 = .ok (.astore 5, 2) := dk_58 5 (dk_at dksX2_others_1 6 rfl rfl)
theorem dX2_others_31 : decode cX2_others 31 = .ok (.aload 5, 2) := dk_25 5 (dk_at dksX2_others_1 8 rfl rfl)
theorem dX2_others_33 : decode cX2_others 33 = .ok (.aload_n 2, 1) := dk_44 (dk_at dksX2_others_1 10 rfl rfl)
theorem dX2_others_34 : decode cX2_others 34 = .ok (.if_acmp .eq 15, 3) := dk_165 0 15 (dk_at dksX2_others_1 11 rfl rfl)
theorem dX2_others_37 : decode cX2_others 37 = .ok (.aload 5, 2) := dk_25 5 (dk_at dksX2_others_1 14 rfl rfl)
theorem dX2_others_39 : decode cX2_others 39 = .ok (.getfield 146, 3) := dk_180 0 146 (dk_at dksX2_others_1 16 rfl rfl)
theorem dX2_others_42 : decode cX2_others 42 = .ok (.iload_n 1, 1) := dk_27 (dk_at dksX2_others_1 19 rfl rfl)
theorem dX2_others_43 : decode cX2_others 43 = .ok (.if_icmp .ne 6, 3) := dk_160 0 6 (dk_at dksX2_others_1 20 rfl rfl)
theorem dX2_others_46 : decode cX2_others 46 = .ok (.iinc 3 1, 3) := dk_132 3 1 (dk_at dksX2_others_2 0 rfl rfl)
theorem dX2_others_49 : decode cX2_others 49 = .ok (.iinc 4 1, 3) := dk_132 4 1 (dk_at dksX2_others_2 3 rfl rfl)
theorem dX2_others_52 : decode cX2_others 52 = .ok (.goto (-47), 3) := dk_167 255 209 (dk_at dksX2_others_2 6 rfl rfl)
theorem dX2_others_55 : decode cX2_others 55 = .ok (.iload_n 3, 1) := dk_29 (dk_at dksX2_others_2 9 rfl rfl)
theorem dX2_others_56 : decode cX2_others 56 = .ok (.ireturn, 1) := dk_172 (dk_at dksX2_others_2 10 rfl rfl)
abbrev cX2_drawn : ByteArray := prog_4_method_16_code
def yX2_drawn : MethodName := ⟨RX2, "drawn", "(IIILGrassPark$Law;)I"⟩
def dkwX2_drawn_2 : List UInt8 := [182, 0, 166, 54, 6, 132, 7, 1, 167, 255, 209, 21, 5, 172]
abbrev dktX2_drawn_2 : List UInt8 := dkwX2_drawn_2 ++ []
def dkwX2_drawn_1 : List UInt8 := [182, 0, 162, 153, 0, 32, 42, 25, 4, 21, 6, 182, 0, 133, 153, 0, 6, 132, 5, 1, 42, 21, 6, 28]
abbrev dktX2_drawn_1 : List UInt8 := dkwX2_drawn_1 ++ dktX2_drawn_2
def dkwX2_drawn_0 : List UInt8 := [3, 54, 5, 27, 54, 6, 3, 54, 7, 21, 7, 29, 162, 0, 47, 21, 6, 2, 159, 0, 41, 42, 21, 6]
abbrev dktX2_drawn_0 : List UInt8 := dkwX2_drawn_0 ++ dktX2_drawn_1
theorem dksX2_drawn_0 : cX2_drawn.data.toList.drop 0 = dktX2_drawn_0 := by decide +kernel
theorem dksX2_drawn_1 : cX2_drawn.data.toList.drop 24 = dktX2_drawn_1 := dk_seg dksX2_drawn_0 24 rfl rfl
theorem dksX2_drawn_2 : cX2_drawn.data.toList.drop 48 = dktX2_drawn_2 := dk_seg dksX2_drawn_1 24 rfl rfl
theorem dX2_drawn_0 : decode cX2_drawn 0 = .ok (.iconst 0, 1) := dk_3 (dk_at dksX2_drawn_0 0 rfl rfl)
theorem dX2_drawn_1 : decode cX2_drawn 1 = .ok (.istore 5, 2) := dk_54 5 (dk_at dksX2_drawn_0 1 rfl rfl)
theorem dX2_drawn_3 : decode cX2_drawn 3 = .ok (.iload_n 1, 1) := dk_27 (dk_at dksX2_drawn_0 3 rfl rfl)
theorem dX2_drawn_4 : decode cX2_drawn 4 = .ok (.istore 6, 2) := dk_54 6 (dk_at dksX2_drawn_0 4 rfl rfl)
theorem dX2_drawn_6 : decode cX2_drawn 6 = .ok (.iconst 0, 1) := dk_3 (dk_at dksX2_drawn_0 6 rfl rfl)
theorem dX2_drawn_7 : decode cX2_drawn 7 = .ok (.istore 7, 2) := dk_54 7 (dk_at dksX2_drawn_0 7 rfl rfl)
theorem dX2_drawn_9 : decode cX2_drawn 9 = .ok (.iload 7, 2) := dk_21 7 (dk_at dksX2_drawn_0 9 rfl rfl)
theorem dX2_drawn_11 : decode cX2_drawn 11 = .ok (.iload_n 3, 1) := dk_29 (dk_at dksX2_drawn_0 11 rfl rfl)
theorem dX2_drawn_12 : decode cX2_drawn 12 = .ok (.if_icmp .ge 47, 3) := dk_162 0 47 (dk_at dksX2_drawn_0 12 rfl rfl)
theorem dX2_drawn_15 : decode cX2_drawn 15 = .ok (.iload 6, 2) := dk_21 6 (dk_at dksX2_drawn_0 15 rfl rfl)
theorem dX2_drawn_17 : decode cX2_drawn 17 = .ok (.iconst (-1), 1) := dk_2 (dk_at dksX2_drawn_0 17 rfl rfl)
theorem dX2_drawn_18 : decode cX2_drawn 18 = .ok (.if_icmp .eq 41, 3) := dk_159 0 41 (dk_at dksX2_drawn_0 18 rfl rfl)
theorem dX2_drawn_21 : decode cX2_drawn 21 = .ok (.aload_n 0, 1) := dk_42 (dk_at dksX2_drawn_0 21 rfl rfl)
theorem dX2_drawn_22 : decode cX2_drawn 22 = .ok (.iload 6, 2) := dk_21 6 (dk_at dksX2_drawn_0 22 rfl rfl)
theorem dX2_drawn_24 : decode cX2_drawn 24 = .ok (.invokevirtual 162, 3) := dk_182 0 162 (dk_at dksX2_drawn_1 0 rfl rfl)
theorem dX2_drawn_27 : decode cX2_drawn 27 = .ok (.ifCond .eq 32, 3) := dk_153 0 32 (dk_at dksX2_drawn_1 3 rfl rfl)
theorem dX2_drawn_30 : decode cX2_drawn 30 = .ok (.aload_n 0, 1) := dk_42 (dk_at dksX2_drawn_1 6 rfl rfl)
theorem dX2_drawn_31 : decode cX2_drawn 31 = .ok (.aload 4, 2) := dk_25 4 (dk_at dksX2_drawn_1 7 rfl rfl)
theorem dX2_drawn_33 : decode cX2_drawn 33 = .ok (.iload 6, 2) := dk_21 6 (dk_at dksX2_drawn_1 9 rfl rfl)
theorem dX2_drawn_35 : decode cX2_drawn 35 = .ok (.invokevirtual 133, 3) := dk_182 0 133 (dk_at dksX2_drawn_1 11 rfl rfl)
theorem dX2_drawn_38 : decode cX2_drawn 38 = .ok (.ifCond .eq 6, 3) := dk_153 0 6 (dk_at dksX2_drawn_1 14 rfl rfl)
theorem dX2_drawn_41 : decode cX2_drawn 41 = .ok (.iinc 5 1, 3) := dk_132 5 1 (dk_at dksX2_drawn_1 17 rfl rfl)
theorem dX2_drawn_44 : decode cX2_drawn 44 = .ok (.aload_n 0, 1) := dk_42 (dk_at dksX2_drawn_1 20 rfl rfl)
theorem dX2_drawn_45 : decode cX2_drawn 45 = .ok (.iload 6, 2) := dk_21 6 (dk_at dksX2_drawn_1 21 rfl rfl)
theorem dX2_drawn_47 : decode cX2_drawn 47 = .ok (.iload_n 2, 1) := dk_28 (dk_at dksX2_drawn_1 23 rfl rfl)
theorem dX2_drawn_48 : decode cX2_drawn 48 = .ok (.invokevirtual 166, 3) := dk_182 0 166 (dk_at dksX2_drawn_2 0 rfl rfl)
theorem dX2_drawn_51 : decode cX2_drawn 51 = .ok (.istore 6, 2) := dk_54 6 (dk_at dksX2_drawn_2 3 rfl rfl)
theorem dX2_drawn_53 : decode cX2_drawn 53 = .ok (.iinc 7 1, 3) := dk_132 7 1 (dk_at dksX2_drawn_2 5 rfl rfl)
theorem dX2_drawn_56 : decode cX2_drawn 56 = .ok (.goto (-47), 3) := dk_167 255 209 (dk_at dksX2_drawn_2 8 rfl rfl)
theorem dX2_drawn_59 : decode cX2_drawn 59 = .ok (.iload 5, 2) := dk_21 5 (dk_at dksX2_drawn_2 11 rfl rfl)
theorem dX2_drawn_61 : decode cX2_drawn 61 = .ok (.ireturn, 1) := dk_172 (dk_at dksX2_drawn_2 13 rfl rfl)
abbrev cX2_mark : ByteArray := prog_4_method_21_code
def yX2_mark : MethodName := ⟨RX2, "mark", "(ILGrassPark$Law;)V"⟩
def dkwX2_mark_2 : List UInt8 := [92, 46, 4, 96, 79, 177]
abbrev dktX2_mark_2 : List UInt8 := dkwX2_mark_2 ++ []
def dkwX2_mark_1 : List UInt8 := [27, 182, 0, 228, 96, 184, 0, 159, 79, 42, 180, 0, 31, 27, 92, 46, 4, 96, 79, 42, 180, 0, 34, 27]
abbrev dktX2_mark_1 : List UInt8 := dkwX2_mark_1 ++ dktX2_mark_2
def dkwX2_mark_0 : List UInt8 := [42, 27, 182, 0, 169, 153, 0, 28, 42, 180, 0, 25, 27, 17, 3, 231, 42, 180, 0, 25, 27, 46, 44, 42]
abbrev dktX2_mark_0 : List UInt8 := dkwX2_mark_0 ++ dktX2_mark_1
theorem dksX2_mark_0 : cX2_mark.data.toList.drop 0 = dktX2_mark_0 := by decide +kernel
theorem dksX2_mark_1 : cX2_mark.data.toList.drop 24 = dktX2_mark_1 := dk_seg dksX2_mark_0 24 rfl rfl
theorem dksX2_mark_2 : cX2_mark.data.toList.drop 48 = dktX2_mark_2 := dk_seg dksX2_mark_1 24 rfl rfl
theorem dX2_mark_0 : decode cX2_mark 0 = .ok (.aload_n 0, 1) := dk_42 (dk_at dksX2_mark_0 0 rfl rfl)
theorem dX2_mark_1 : decode cX2_mark 1 = .ok (.iload_n 1, 1) := dk_27 (dk_at dksX2_mark_0 1 rfl rfl)
theorem dX2_mark_2 : decode cX2_mark 2 = .ok (.invokevirtual 169, 3) := dk_182 0 169 (dk_at dksX2_mark_0 2 rfl rfl)
theorem dX2_mark_5 : decode cX2_mark 5 = .ok (.ifCond .eq 28, 3) := dk_153 0 28 (dk_at dksX2_mark_0 5 rfl rfl)
theorem dX2_mark_8 : decode cX2_mark 8 = .ok (.aload_n 0, 1) := dk_42 (dk_at dksX2_mark_0 8 rfl rfl)
theorem dX2_mark_9 : decode cX2_mark 9 = .ok (.getfield 25, 3) := dk_180 0 25 (dk_at dksX2_mark_0 9 rfl rfl)
theorem dX2_mark_12 : decode cX2_mark 12 = .ok (.iload_n 1, 1) := dk_27 (dk_at dksX2_mark_0 12 rfl rfl)
theorem dX2_mark_13 : decode cX2_mark 13 = .ok (.sipush 999, 3) := dk_17 3 231 (dk_at dksX2_mark_0 13 rfl rfl)
theorem dX2_mark_16 : decode cX2_mark 16 = .ok (.aload_n 0, 1) := dk_42 (dk_at dksX2_mark_0 16 rfl rfl)
theorem dX2_mark_17 : decode cX2_mark 17 = .ok (.getfield 25, 3) := dk_180 0 25 (dk_at dksX2_mark_0 17 rfl rfl)
theorem dX2_mark_20 : decode cX2_mark 20 = .ok (.iload_n 1, 1) := dk_27 (dk_at dksX2_mark_0 20 rfl rfl)
theorem dX2_mark_21 : decode cX2_mark 21 = .ok (.iaload, 1) := dk_46 (dk_at dksX2_mark_0 21 rfl rfl)
theorem dX2_mark_22 : decode cX2_mark 22 = .ok (.aload_n 2, 1) := dk_44 (dk_at dksX2_mark_0 22 rfl rfl)
theorem dX2_mark_23 : decode cX2_mark 23 = .ok (.aload_n 0, 1) := dk_42 (dk_at dksX2_mark_0 23 rfl rfl)
theorem dX2_mark_24 : decode cX2_mark 24 = .ok (.iload_n 1, 1) := dk_27 (dk_at dksX2_mark_1 0 rfl rfl)
theorem dX2_mark_25 : decode cX2_mark 25 = .ok (.invokevirtual 228, 3) := dk_182 0 228 (dk_at dksX2_mark_1 1 rfl rfl)
theorem dX2_mark_28 : decode cX2_mark 28 = .ok (.iadd, 1) := dk_96 (dk_at dksX2_mark_1 4 rfl rfl)
theorem dX2_mark_29 : decode cX2_mark 29 = .ok (.invokestatic 159, 3) := dk_184 0 159 (dk_at dksX2_mark_1 5 rfl rfl)
theorem dX2_mark_32 : decode cX2_mark 32 = .ok (.iastore, 1) := dk_79 (dk_at dksX2_mark_1 8 rfl rfl)
theorem dX2_mark_33 : decode cX2_mark 33 = .ok (.aload_n 0, 1) := dk_42 (dk_at dksX2_mark_1 9 rfl rfl)
theorem dX2_mark_34 : decode cX2_mark 34 = .ok (.getfield 31, 3) := dk_180 0 31 (dk_at dksX2_mark_1 10 rfl rfl)
theorem dX2_mark_37 : decode cX2_mark 37 = .ok (.iload_n 1, 1) := dk_27 (dk_at dksX2_mark_1 13 rfl rfl)
theorem dX2_mark_38 : decode cX2_mark 38 = .ok (.dup2, 1) := dk_92 (dk_at dksX2_mark_1 14 rfl rfl)
theorem dX2_mark_39 : decode cX2_mark 39 = .ok (.iaload, 1) := dk_46 (dk_at dksX2_mark_1 15 rfl rfl)
theorem dX2_mark_40 : decode cX2_mark 40 = .ok (.iconst 1, 1) := dk_4 (dk_at dksX2_mark_1 16 rfl rfl)
theorem dX2_mark_41 : decode cX2_mark 41 = .ok (.iadd, 1) := dk_96 (dk_at dksX2_mark_1 17 rfl rfl)
theorem dX2_mark_42 : decode cX2_mark 42 = .ok (.iastore, 1) := dk_79 (dk_at dksX2_mark_1 18 rfl rfl)
theorem dX2_mark_43 : decode cX2_mark 43 = .ok (.aload_n 0, 1) := dk_42 (dk_at dksX2_mark_1 19 rfl rfl)
theorem dX2_mark_44 : decode cX2_mark 44 = .ok (.getfield 34, 3) := dk_180 0 34 (dk_at dksX2_mark_1 20 rfl rfl)
theorem dX2_mark_47 : decode cX2_mark 47 = .ok (.iload_n 1, 1) := dk_27 (dk_at dksX2_mark_1 23 rfl rfl)
theorem dX2_mark_48 : decode cX2_mark 48 = .ok (.dup2, 1) := dk_92 (dk_at dksX2_mark_2 0 rfl rfl)
theorem dX2_mark_49 : decode cX2_mark 49 = .ok (.iaload, 1) := dk_46 (dk_at dksX2_mark_2 1 rfl rfl)
theorem dX2_mark_50 : decode cX2_mark 50 = .ok (.iconst 1, 1) := dk_4 (dk_at dksX2_mark_2 2 rfl rfl)
theorem dX2_mark_51 : decode cX2_mark 51 = .ok (.iadd, 1) := dk_96 (dk_at dksX2_mark_2 3 rfl rfl)
theorem dX2_mark_52 : decode cX2_mark 52 = .ok (.iastore, 1) := dk_79 (dk_at dksX2_mark_2 4 rfl rfl)
theorem dX2_mark_53 : decode cX2_mark 53 = .ok (.return_, 1) := dk_177 (dk_at dksX2_mark_2 5 rfl rfl)
abbrev cX2_retire : ByteArray := prog_4_method_3_code
def yX2_retire : MethodName := ⟨RX2, "retire", "(I)V"⟩
def dkwX2_retire_0 : List UInt8 := [42, 180, 0, 54, 42, 180, 0, 51, 27, 182, 0, 68, 192, 0, 61, 182, 0, 72, 87, 177]
abbrev dktX2_retire_0 : List UInt8 := dkwX2_retire_0 ++ []
theorem dksX2_retire_0 : cX2_retire.data.toList.drop 0 = dktX2_retire_0 := by decide +kernel
theorem dX2_retire_0 : decode cX2_retire 0 = .ok (.aload_n 0, 1) := dk_42 (dk_at dksX2_retire_0 0 rfl rfl)
theorem dX2_retire_1 : decode cX2_retire 1 = .ok (.getfield 54, 3) := dk_180 0 54 (dk_at dksX2_retire_0 1 rfl rfl)
theorem dX2_retire_4 : decode cX2_retire 4 = .ok (.aload_n 0, 1) := dk_42 (dk_at dksX2_retire_0 4 rfl rfl)
theorem dX2_retire_5 : decode cX2_retire 5 = .ok (.getfield 51, 3) := dk_180 0 51 (dk_at dksX2_retire_0 5 rfl rfl)
theorem dX2_retire_8 : decode cX2_retire 8 = .ok (.iload_n 1, 1) := dk_27 (dk_at dksX2_retire_0 8 rfl rfl)
theorem dX2_retire_9 : decode cX2_retire 9 = .ok (.invokevirtual 68, 3) := dk_182 0 68 (dk_at dksX2_retire_0 9 rfl rfl)
theorem dX2_retire_12 : decode cX2_retire 12 = .ok (.checkcast 61, 3) := dk_192 0 61 (dk_at dksX2_retire_0 12 rfl rfl)
theorem dX2_retire_15 : decode cX2_retire 15 = .ok (.invokevirtual 72, 3) := dk_182 0 72 (dk_at dksX2_retire_0 15 rfl rfl)
theorem dX2_retire_18 : decode cX2_retire 18 = .ok (.pop, 1) := dk_87 (dk_at dksX2_retire_0 18 rfl rfl)
theorem dX2_retire_19 : decode cX2_retire 19 = .ok (.return_, 1) := dk_177 (dk_at dksX2_retire_0 19 rfl rfl)
abbrev cX2_week : ByteArray := prog_4_method_23_code
def yX2_week : MethodName := ⟨RX2, "week", "(LGrassPark$Law;)V"⟩
def dkwX2_week_3 : List UInt8 := [42, 180, 0, 31, 28, 3, 79, 132, 2, 1, 167, 255, 238, 177]
abbrev dktX2_week_3 : List UInt8 := dkwX2_week_3 ++ []
def dkwX2_week_2 : List UInt8 := [180, 1, 4, 100, 184, 0, 155, 79, 132, 2, 1, 167, 255, 201, 3, 61, 28, 42, 182, 0, 121, 162, 0, 16]
abbrev dktX2_week_2 : List UInt8 := dkwX2_week_2 ++ dktX2_week_3
def dkwX2_week_1 : List UInt8 := [28, 182, 1, 1, 100, 184, 0, 155, 79, 42, 180, 0, 28, 28, 3, 42, 180, 0, 28, 28, 46, 43]
abbrev dktX2_week_1 : List UInt8 := dkwX2_week_1 ++ dktX2_week_2
def dkwX2_week_0 : List UInt8 := [3, 61, 28, 42, 182, 0, 121, 162, 0, 53, 42, 180, 0, 25, 28, 3, 42, 180, 0, 25, 28, 46, 43, 42]
abbrev dktX2_week_0 : List UInt8 := dkwX2_week_0 ++ dktX2_week_1
theorem dksX2_week_0 : cX2_week.data.toList.drop 0 = dktX2_week_0 := by decide +kernel
theorem dksX2_week_1 : cX2_week.data.toList.drop 24 = dktX2_week_1 := dk_seg dksX2_week_0 24 rfl rfl
theorem dksX2_week_2 : cX2_week.data.toList.drop 46 = dktX2_week_2 := dk_seg dksX2_week_1 22 rfl rfl
theorem dksX2_week_3 : cX2_week.data.toList.drop 70 = dktX2_week_3 := dk_seg dksX2_week_2 24 rfl rfl
theorem dX2_week_0 : decode cX2_week 0 = .ok (.iconst 0, 1) := dk_3 (dk_at dksX2_week_0 0 rfl rfl)
theorem dX2_week_1 : decode cX2_week 1 = .ok (.istore_n 2, 1) := dk_61 (dk_at dksX2_week_0 1 rfl rfl)
theorem dX2_week_2 : decode cX2_week 2 = .ok (.iload_n 2, 1) := dk_28 (dk_at dksX2_week_0 2 rfl rfl)
theorem dX2_week_3 : decode cX2_week 3 = .ok (.aload_n 0, 1) := dk_42 (dk_at dksX2_week_0 3 rfl rfl)
theorem dX2_week_4 : decode cX2_week 4 = .ok (.invokevirtual 121, 3) := dk_182 0 121 (dk_at dksX2_week_0 4 rfl rfl)
theorem dX2_week_7 : decode cX2_week 7 = .ok (.if_icmp .ge 53, 3) := dk_162 0 53 (dk_at dksX2_week_0 7 rfl rfl)
theorem dX2_week_10 : decode cX2_week 10 = .ok (.aload_n 0, 1) := dk_42 (dk_at dksX2_week_0 10 rfl rfl)
theorem dX2_week_11 : decode cX2_week 11 = .ok (.getfield 25, 3) := dk_180 0 25 (dk_at dksX2_week_0 11 rfl rfl)
theorem dX2_week_14 : decode cX2_week 14 = .ok (.iload_n 2, 1) := dk_28 (dk_at dksX2_week_0 14 rfl rfl)
theorem dX2_week_15 : decode cX2_week 15 = .ok (.iconst 0, 1) := dk_3 (dk_at dksX2_week_0 15 rfl rfl)
theorem dX2_week_16 : decode cX2_week 16 = .ok (.aload_n 0, 1) := dk_42 (dk_at dksX2_week_0 16 rfl rfl)
theorem dX2_week_17 : decode cX2_week 17 = .ok (.getfield 25, 3) := dk_180 0 25 (dk_at dksX2_week_0 17 rfl rfl)
theorem dX2_week_20 : decode cX2_week 20 = .ok (.iload_n 2, 1) := dk_28 (dk_at dksX2_week_0 20 rfl rfl)
theorem dX2_week_21 : decode cX2_week 21 = .ok (.iaload, 1) := dk_46 (dk_at dksX2_week_0 21 rfl rfl)
theorem dX2_week_22 : decode cX2_week 22 = .ok (.aload_n 1, 1) := dk_43 (dk_at dksX2_week_0 22 rfl rfl)
theorem dX2_week_23 : decode cX2_week 23 = .ok (.aload_n 0, 1) := dk_42 (dk_at dksX2_week_0 23 rfl rfl)
theorem dX2_week_24 : decode cX2_week 24 = .ok (.iload_n 2, 1) := dk_28 (dk_at dksX2_week_1 0 rfl rfl)
theorem dX2_week_25 : decode cX2_week 25 = .ok (.invokevirtual 257, 3) := dk_182 1 1 (dk_at dksX2_week_1 1 rfl rfl)
theorem dX2_week_28 : decode cX2_week 28 = .ok (.isub, 1) := dk_100 (dk_at dksX2_week_1 4 rfl rfl)
theorem dX2_week_29 : decode cX2_week 29 = .ok (.invokestatic 155, 3) := dk_184 0 155 (dk_at dksX2_week_1 5 rfl rfl)
theorem dX2_week_32 : decode cX2_week 32 = .ok (.iastore, 1) := dk_79 (dk_at dksX2_week_1 8 rfl rfl)
theorem dX2_week_33 : decode cX2_week 33 = .ok (.aload_n 0, 1) := dk_42 (dk_at dksX2_week_1 9 rfl rfl)
theorem dX2_week_34 : decode cX2_week 34 = .ok (.getfield 28, 3) := dk_180 0 28 (dk_at dksX2_week_1 10 rfl rfl)
theorem dX2_week_37 : decode cX2_week 37 = .ok (.iload_n 2, 1) := dk_28 (dk_at dksX2_week_1 13 rfl rfl)
theorem dX2_week_38 : decode cX2_week 38 = .ok (.iconst 0, 1) := dk_3 (dk_at dksX2_week_1 14 rfl rfl)
theorem dX2_week_39 : decode cX2_week 39 = .ok (.aload_n 0, 1) := dk_42 (dk_at dksX2_week_1 15 rfl rfl)
theorem dX2_week_40 : decode cX2_week 40 = .ok (.getfield 28, 3) := dk_180 0 28 (dk_at dksX2_week_1 16 rfl rfl)
theorem dX2_week_43 : decode cX2_week 43 = .ok (.iload_n 2, 1) := dk_28 (dk_at dksX2_week_1 19 rfl rfl)
theorem dX2_week_44 : decode cX2_week 44 = .ok (.iaload, 1) := dk_46 (dk_at dksX2_week_1 20 rfl rfl)
theorem dX2_week_45 : decode cX2_week 45 = .ok (.aload_n 1, 1) := dk_43 (dk_at dksX2_week_1 21 rfl rfl)
theorem dX2_week_46 : decode cX2_week 46 = .ok (.getfield 260, 3) := dk_180 1 4 (dk_at dksX2_week_2 0 rfl rfl)
theorem dX2_week_49 : decode cX2_week 49 = .ok (.isub, 1) := dk_100 (dk_at dksX2_week_2 3 rfl rfl)
theorem dX2_week_50 : decode cX2_week 50 = .ok (.invokestatic 155, 3) := dk_184 0 155 (dk_at dksX2_week_2 4 rfl rfl)
theorem dX2_week_53 : decode cX2_week 53 = .ok (.iastore, 1) := dk_79 (dk_at dksX2_week_2 7 rfl rfl)
theorem dX2_week_54 : decode cX2_week 54 = .ok (.iinc 2 1, 3) := dk_132 2 1 (dk_at dksX2_week_2 8 rfl rfl)
theorem dX2_week_57 : decode cX2_week 57 = .ok (.goto (-55), 3) := dk_167 255 201 (dk_at dksX2_week_2 11 rfl rfl)
theorem dX2_week_60 : decode cX2_week 60 = .ok (.iconst 0, 1) := dk_3 (dk_at dksX2_week_2 14 rfl rfl)
theorem dX2_week_61 : decode cX2_week 61 = .ok (.istore_n 2, 1) := dk_61 (dk_at dksX2_week_2 15 rfl rfl)
theorem dX2_week_62 : decode cX2_week 62 = .ok (.iload_n 2, 1) := dk_28 (dk_at dksX2_week_2 16 rfl rfl)
theorem dX2_week_63 : decode cX2_week 63 = .ok (.aload_n 0, 1) := dk_42 (dk_at dksX2_week_2 17 rfl rfl)
theorem dX2_week_64 : decode cX2_week 64 = .ok (.invokevirtual 121, 3) := dk_182 0 121 (dk_at dksX2_week_2 18 rfl rfl)
theorem dX2_week_67 : decode cX2_week 67 = .ok (.if_icmp .ge 16, 3) := dk_162 0 16 (dk_at dksX2_week_2 21 rfl rfl)
theorem dX2_week_70 : decode cX2_week 70 = .ok (.aload_n 0, 1) := dk_42 (dk_at dksX2_week_3 0 rfl rfl)
theorem dX2_week_71 : decode cX2_week 71 = .ok (.getfield 31, 3) := dk_180 0 31 (dk_at dksX2_week_3 1 rfl rfl)
theorem dX2_week_74 : decode cX2_week 74 = .ok (.iload_n 2, 1) := dk_28 (dk_at dksX2_week_3 4 rfl rfl)
theorem dX2_week_75 : decode cX2_week 75 = .ok (.iconst 0, 1) := dk_3 (dk_at dksX2_week_3 5 rfl rfl)
theorem dX2_week_76 : decode cX2_week 76 = .ok (.iastore, 1) := dk_79 (dk_at dksX2_week_3 6 rfl rfl)
theorem dX2_week_77 : decode cX2_week 77 = .ok (.iinc 2 1, 3) := dk_132 2 1 (dk_at dksX2_week_3 7 rfl rfl)
theorem dX2_week_80 : decode cX2_week 80 = .ok (.goto (-18), 3) := dk_167 255 238 (dk_at dksX2_week_3 10 rfl rfl)
theorem dX2_week_83 : decode cX2_week 83 = .ok (.return_, 1) := dk_177 (dk_at dksX2_week_3 13 rfl rfl)
abbrev cX2_net : ByteArray := prog_4_method_26_code
def yX2_net : MethodName := ⟨RX2, "net", "(LGrassPark$Law;)I"⟩
def dkwX2_net_1 : List UInt8 := [132, 3, 1, 167, 255, 233, 28, 172]
abbrev dktX2_net_1 : List UInt8 := dkwX2_net_1 ++ []
def dkwX2_net_0 : List UInt8 := [3, 61, 3, 62, 29, 42, 182, 0, 121, 162, 0, 21, 42, 43, 29, 182, 0, 133, 153, 0, 6, 132, 2, 1]
abbrev dktX2_net_0 : List UInt8 := dkwX2_net_0 ++ dktX2_net_1
theorem dksX2_net_0 : cX2_net.data.toList.drop 0 = dktX2_net_0 := by decide +kernel
theorem dksX2_net_1 : cX2_net.data.toList.drop 24 = dktX2_net_1 := dk_seg dksX2_net_0 24 rfl rfl
theorem dX2_net_0 : decode cX2_net 0 = .ok (.iconst 0, 1) := dk_3 (dk_at dksX2_net_0 0 rfl rfl)
theorem dX2_net_1 : decode cX2_net 1 = .ok (.istore_n 2, 1) := dk_61 (dk_at dksX2_net_0 1 rfl rfl)
theorem dX2_net_2 : decode cX2_net 2 = .ok (.iconst 0, 1) := dk_3 (dk_at dksX2_net_0 2 rfl rfl)
theorem dX2_net_3 : decode cX2_net 3 = .ok (.istore_n 3, 1) := dk_62 (dk_at dksX2_net_0 3 rfl rfl)
theorem dX2_net_4 : decode cX2_net 4 = .ok (.iload_n 3, 1) := dk_29 (dk_at dksX2_net_0 4 rfl rfl)
theorem dX2_net_5 : decode cX2_net 5 = .ok (.aload_n 0, 1) := dk_42 (dk_at dksX2_net_0 5 rfl rfl)
theorem dX2_net_6 : decode cX2_net 6 = .ok (.invokevirtual 121, 3) := dk_182 0 121 (dk_at dksX2_net_0 6 rfl rfl)
theorem dX2_net_9 : decode cX2_net 9 = .ok (.if_icmp .ge 21, 3) := dk_162 0 21 (dk_at dksX2_net_0 9 rfl rfl)
theorem dX2_net_12 : decode cX2_net 12 = .ok (.aload_n 0, 1) := dk_42 (dk_at dksX2_net_0 12 rfl rfl)
theorem dX2_net_13 : decode cX2_net 13 = .ok (.aload_n 1, 1) := dk_43 (dk_at dksX2_net_0 13 rfl rfl)
theorem dX2_net_14 : decode cX2_net 14 = .ok (.iload_n 3, 1) := dk_29 (dk_at dksX2_net_0 14 rfl rfl)
theorem dX2_net_15 : decode cX2_net 15 = .ok (.invokevirtual 133, 3) := dk_182 0 133 (dk_at dksX2_net_0 15 rfl rfl)
theorem dX2_net_18 : decode cX2_net 18 = .ok (.ifCond .eq 6, 3) := dk_153 0 6 (dk_at dksX2_net_0 18 rfl rfl)
theorem dX2_net_21 : decode cX2_net 21 = .ok (.iinc 2 1, 3) := dk_132 2 1 (dk_at dksX2_net_0 21 rfl rfl)
theorem dX2_net_24 : decode cX2_net 24 = .ok (.iinc 3 1, 3) := dk_132 3 1 (dk_at dksX2_net_1 0 rfl rfl)
theorem dX2_net_27 : decode cX2_net 27 = .ok (.goto (-23), 3) := dk_167 255 233 (dk_at dksX2_net_1 3 rfl rfl)
theorem dX2_net_30 : decode cX2_net 30 = .ok (.iload_n 2, 1) := dk_28 (dk_at dksX2_net_1 6 rfl rfl)
theorem dX2_net_31 : decode cX2_net 31 = .ok (.ireturn, 1) := dk_172 (dk_at dksX2_net_1 7 rfl rfl)
abbrev cX2_isWalkedOn : ByteArray := prog_4_method_13_code
def yX2_isWalkedOn : MethodName := ⟨RX2, "isWalkedOn", "(I)Z"⟩
def dkwX2_isWalkedOn_1 : List UInt8 := [78, 45, 180, 0, 146, 27, 160, 0, 5, 4, 172, 132, 2, 1, 167, 255, 220, 3, 172]
abbrev dktX2_isWalkedOn_1 : List UInt8 := dkwX2_isWalkedOn_1 ++ []
def dkwX2_isWalkedOn_0 : List UInt8 := [3, 61, 28, 42, 180, 0, 51, 182, 0, 64, 162, 0, 31, 42, 180, 0, 51, 28, 182, 0, 101, 192, 0, 61]
abbrev dktX2_isWalkedOn_0 : List UInt8 := dkwX2_isWalkedOn_0 ++ dktX2_isWalkedOn_1
theorem dksX2_isWalkedOn_0 : cX2_isWalkedOn.data.toList.drop 0 = dktX2_isWalkedOn_0 := by decide +kernel
theorem dksX2_isWalkedOn_1 : cX2_isWalkedOn.data.toList.drop 24 = dktX2_isWalkedOn_1 := dk_seg dksX2_isWalkedOn_0 24 rfl rfl
theorem dX2_isWalkedOn_0 : decode cX2_isWalkedOn 0 = .ok (.iconst 0, 1) := dk_3 (dk_at dksX2_isWalkedOn_0 0 rfl rfl)
theorem dX2_isWalkedOn_1 : decode cX2_isWalkedOn 1 = .ok (.istore_n 2, 1) := dk_61 (dk_at dksX2_isWalkedOn_0 1 rfl rfl)
theorem dX2_isWalkedOn_2 : decode cX2_isWalkedOn 2 = .ok (.iload_n 2, 1) := dk_28 (dk_at dksX2_isWalkedOn_0 2 rfl rfl)
theorem dX2_isWalkedOn_3 : decode cX2_isWalkedOn 3 = .ok (.aload_n 0, 1) := dk_42 (dk_at dksX2_isWalkedOn_0 3 rfl rfl)
theorem dX2_isWalkedOn_4 : decode cX2_isWalkedOn 4 = .ok (.getfield 51, 3) := dk_180 0 51 (dk_at dksX2_isWalkedOn_0 4 rfl rfl)
theorem dX2_isWalkedOn_7 : decode cX2_isWalkedOn 7 = .ok (.invokevirtual 64, 3) := dk_182 0 64 (dk_at dksX2_isWalkedOn_0 7 rfl rfl)
theorem dX2_isWalkedOn_10 : decode cX2_isWalkedOn 10 = .ok (.if_icmp .ge 31, 3) := dk_162 0 31 (dk_at dksX2_isWalkedOn_0 10 rfl rfl)
theorem dX2_isWalkedOn_13 : decode cX2_isWalkedOn 13 = .ok (.aload_n 0, 1) := dk_42 (dk_at dksX2_isWalkedOn_0 13 rfl rfl)
theorem dX2_isWalkedOn_14 : decode cX2_isWalkedOn 14 = .ok (.getfield 51, 3) := dk_180 0 51 (dk_at dksX2_isWalkedOn_0 14 rfl rfl)
theorem dX2_isWalkedOn_17 : decode cX2_isWalkedOn 17 = .ok (.iload_n 2, 1) := dk_28 (dk_at dksX2_isWalkedOn_0 17 rfl rfl)
theorem dX2_isWalkedOn_18 : decode cX2_isWalkedOn 18 = .ok (.invokevirtual 101, 3) := dk_182 0 101 (dk_at dksX2_isWalkedOn_0 18 rfl rfl)
theorem dX2_isWalkedOn_21 : decode cX2_isWalkedOn 21 = .ok (.checkcast 61, 3) := dk_192 0 61 (dk_at dksX2_isWalkedOn_0 21 rfl rfl)
theorem dX2_isWalkedOn_24 : decode cX2_isWalkedOn 24 = .ok (.astore_n 3, 1) := dk_78 (dk_at dksX2_isWalkedOn_1 0 rfl rfl)
theorem dX2_isWalkedOn_25 : decode cX2_isWalkedOn 25 = .ok (.aload_n 3, 1) := dk_45 (dk_at dksX2_isWalkedOn_1 1 rfl rfl)
theorem dX2_isWalkedOn_26 : decode cX2_isWalkedOn 26 = .ok (.getfield 146, 3) := dk_180 0 146 (dk_at dksX2_isWalkedOn_1 2 rfl rfl)
theorem dX2_isWalkedOn_29 : decode cX2_isWalkedOn 29 = .ok (.iload_n 1, 1) := dk_27 (dk_at dksX2_isWalkedOn_1 5 rfl rfl)
theorem dX2_isWalkedOn_30 : decode cX2_isWalkedOn 30 = .ok (.if_icmp .ne 5, 3) := dk_160 0 5 (dk_at dksX2_isWalkedOn_1 6 rfl rfl)
theorem dX2_isWalkedOn_33 : decode cX2_isWalkedOn 33 = .ok (.iconst 1, 1) := dk_4 (dk_at dksX2_isWalkedOn_1 9 rfl rfl)
theorem dX2_isWalkedOn_34 : decode cX2_isWalkedOn 34 = .ok (.ireturn, 1) := dk_172 (dk_at dksX2_isWalkedOn_1 10 rfl rfl)
theorem dX2_isWalkedOn_35 : decode cX2_isWalkedOn 35 = .ok (.iinc 2 1, 3) := dk_132 2 1 (dk_at dksX2_isWalkedOn_1 11 rfl rfl)
theorem dX2_isWalkedOn_38 : decode cX2_isWalkedOn 38 = .ok (.goto (-36), 3) := dk_167 255 220 (dk_at dksX2_isWalkedOn_1 14 rfl rfl)
theorem dX2_isWalkedOn_41 : decode cX2_isWalkedOn 41 = .ok (.iconst 0, 1) := dk_3 (dk_at dksX2_isWalkedOn_1 17 rfl rfl)
theorem dX2_isWalkedOn_42 : decode cX2_isWalkedOn 42 = .ok (.ireturn, 1) := dk_172 (dk_at dksX2_isWalkedOn_1 18 rfl rfl)
abbrev cX2_lay : ByteArray := prog_4_method_27_code
def yX2_lay : MethodName := ⟨RX2, "lay", "(II)V"⟩
def dkwX2_lay_0 : List UInt8 := [42, 180, 0, 18, 27, 28, 79, 42, 27, 182, 0, 169, 154, 0, 10, 42, 180, 0, 25, 27, 3, 79, 177]
abbrev dktX2_lay_0 : List UInt8 := dkwX2_lay_0 ++ []
theorem dksX2_lay_0 : cX2_lay.data.toList.drop 0 = dktX2_lay_0 := by decide +kernel
theorem dX2_lay_0 : decode cX2_lay 0 = .ok (.aload_n 0, 1) := dk_42 (dk_at dksX2_lay_0 0 rfl rfl)
theorem dX2_lay_1 : decode cX2_lay 1 = .ok (.getfield 18, 3) := dk_180 0 18 (dk_at dksX2_lay_0 1 rfl rfl)
theorem dX2_lay_4 : decode cX2_lay 4 = .ok (.iload_n 1, 1) := dk_27 (dk_at dksX2_lay_0 4 rfl rfl)
theorem dX2_lay_5 : decode cX2_lay 5 = .ok (.iload_n 2, 1) := dk_28 (dk_at dksX2_lay_0 5 rfl rfl)
theorem dX2_lay_6 : decode cX2_lay 6 = .ok (.iastore, 1) := dk_79 (dk_at dksX2_lay_0 6 rfl rfl)
theorem dX2_lay_7 : decode cX2_lay 7 = .ok (.aload_n 0, 1) := dk_42 (dk_at dksX2_lay_0 7 rfl rfl)
theorem dX2_lay_8 : decode cX2_lay 8 = .ok (.iload_n 1, 1) := dk_27 (dk_at dksX2_lay_0 8 rfl rfl)
theorem dX2_lay_9 : decode cX2_lay 9 = .ok (.invokevirtual 169, 3) := dk_182 0 169 (dk_at dksX2_lay_0 9 rfl rfl)
theorem dX2_lay_12 : decode cX2_lay 12 = .ok (.ifCond .ne 10, 3) := dk_154 0 10 (dk_at dksX2_lay_0 12 rfl rfl)
theorem dX2_lay_15 : decode cX2_lay 15 = .ok (.aload_n 0, 1) := dk_42 (dk_at dksX2_lay_0 15 rfl rfl)
theorem dX2_lay_16 : decode cX2_lay 16 = .ok (.getfield 25, 3) := dk_180 0 25 (dk_at dksX2_lay_0 16 rfl rfl)
theorem dX2_lay_19 : decode cX2_lay 19 = .ok (.iload_n 1, 1) := dk_27 (dk_at dksX2_lay_0 19 rfl rfl)
theorem dX2_lay_20 : decode cX2_lay 20 = .ok (.iconst 0, 1) := dk_3 (dk_at dksX2_lay_0 20 rfl rfl)
theorem dX2_lay_21 : decode cX2_lay 21 = .ok (.iastore, 1) := dk_79 (dk_at dksX2_lay_0 21 rfl rfl)
theorem dX2_lay_22 : decode cX2_lay 22 = .ok (.return_, 1) := dk_177 (dk_at dksX2_lay_0 22 rfl rfl)
abbrev cX2_into : ByteArray := prog_4_method_4_code
def yX2_into : MethodName := ⟨RX2, "into", "(LGrassPark$Ground;)LGrassPark$Ground;"⟩
def dkwX2_into_16 : List UInt8 := [180, 0, 51, 28, 182, 0, 101, 192, 0, 61, 182, 0, 118, 132, 2, 1, 167, 255, 194, 43, 176]
abbrev dktX2_into_16 : List UInt8 := dkwX2_into_16 ++ []
def dkwX2_into_15 : List UInt8 := [180, 0, 51, 43, 182, 0, 114, 182, 0, 72, 87, 43, 180, 0, 51, 28, 182, 0, 101, 192, 0, 61, 42]
abbrev dktX2_into_15 : List UInt8 := dkwX2_into_15 ++ dktX2_into_16
def dkwX2_into_14 : List UInt8 := [42, 180, 0, 51, 182, 0, 64, 162, 0, 57, 28, 43, 180, 0, 51, 182, 0, 64, 160, 0, 15, 43]
abbrev dktX2_into_14 : List UInt8 := dkwX2_into_14 ++ dktX2_into_15
def dkwX2_into_13 : List UInt8 := [167, 0, 15, 43, 180, 0, 47, 45, 182, 0, 110, 182, 0, 72, 87, 132, 2, 1, 167, 255, 189, 3, 61, 28]
abbrev dktX2_into_13 : List UInt8 := dkwX2_into_13 ++ dktX2_into_14
def dkwX2_into_12 : List UInt8 := [180, 0, 47, 182, 0, 64, 162, 0, 21, 43, 180, 0, 47, 28, 182, 0, 101, 192, 0, 104, 45, 182, 0, 106]
abbrev dktX2_into_12 : List UInt8 := dkwX2_into_12 ++ dktX2_into_13
def dkwX2_into_11 : List UInt8 := [180, 0, 47, 182, 0, 64, 162, 0, 62, 42, 180, 0, 47, 28, 182, 0, 101, 192, 0, 104, 78, 28, 43]
abbrev dktX2_into_11 : List UInt8 := dkwX2_into_11 ++ dktX2_into_12
def dkwX2_into_10 : List UInt8 := [184, 0, 95, 42, 180, 0, 40, 3, 43, 180, 0, 40, 3, 17, 1, 0, 184, 0, 95, 3, 61, 28, 42]
abbrev dktX2_into_10 : List UInt8 := dkwX2_into_10 ++ dktX2_into_11
def dkwX2_into_9 : List UInt8 := [43, 180, 0, 34, 3, 17, 1, 0, 184, 0, 95, 42, 180, 0, 37, 3, 43, 180, 0, 37, 3, 16, 9]
abbrev dktX2_into_9 : List UInt8 := dkwX2_into_9 ++ dktX2_into_10
def dkwX2_into_8 : List UInt8 := [184, 0, 95, 42, 180, 0, 31, 3, 43, 180, 0, 31, 3, 17, 1, 0, 184, 0, 95, 42, 180, 0, 34, 3]
abbrev dktX2_into_8 : List UInt8 := dkwX2_into_8 ++ dktX2_into_9
def dkwX2_into_7 : List UInt8 := [43, 180, 0, 25, 3, 17, 1, 0, 184, 0, 95, 42, 180, 0, 28, 3, 43, 180, 0, 28, 3, 17, 1, 0]
abbrev dktX2_into_7 : List UInt8 := dkwX2_into_7 ++ dktX2_into_8
def dkwX2_into_6 : List UInt8 := [184, 0, 95, 42, 180, 0, 22, 3, 43, 180, 0, 22, 3, 17, 1, 0, 184, 0, 95, 42, 180, 0, 25, 3]
abbrev dktX2_into_6 : List UInt8 := dkwX2_into_6 ++ dktX2_into_7
def dkwX2_into_5 : List UInt8 := [181, 0, 89, 43, 42, 180, 0, 92, 181, 0, 92, 42, 180, 0, 18, 3, 43, 180, 0, 18, 3, 17, 1, 0]
abbrev dktX2_into_5 : List UInt8 := dkwX2_into_5 ++ dktX2_into_6
def dkwX2_into_4 : List UInt8 := [181, 0, 80, 43, 42, 180, 0, 83, 181, 0, 83, 43, 42, 180, 0, 86, 181, 0, 86, 43, 42, 180, 0, 89]
abbrev dktX2_into_4 : List UInt8 := dkwX2_into_4 ++ dktX2_into_5
def dkwX2_into_3 : List UInt8 := [167, 255, 226, 43, 42, 180, 0, 9, 181, 0, 9, 43, 42, 180, 0, 15, 181, 0, 15, 43, 42, 180, 0, 80]
abbrev dktX2_into_3 : List UInt8 := dkwX2_into_3 ++ dktX2_into_4
def dkwX2_into_2 : List UInt8 := [180, 0, 51, 182, 0, 64, 164, 0, 19, 43, 43, 180, 0, 51, 182, 0, 64, 4, 100, 182, 0, 76]
abbrev dktX2_into_2 : List UInt8 := dkwX2_into_2 ++ dktX2_into_3
def dkwX2_into_1 : List UInt8 := [180, 0, 47, 182, 0, 64, 4, 100, 182, 0, 68, 87, 167, 255, 222, 43, 180, 0, 51, 182, 0, 64, 42]
abbrev dktX2_into_1 : List UInt8 := dkwX2_into_1 ++ dktX2_into_2
def dkwX2_into_0 : List UInt8 := [43, 180, 0, 47, 182, 0, 64, 42, 180, 0, 47, 182, 0, 64, 164, 0, 23, 43, 180, 0, 47, 43]
abbrev dktX2_into_0 : List UInt8 := dkwX2_into_0 ++ dktX2_into_1
theorem dksX2_into_0 : cX2_into.data.toList.drop 0 = dktX2_into_0 := by decide +kernel
theorem dksX2_into_1 : cX2_into.data.toList.drop 22 = dktX2_into_1 := dk_seg dksX2_into_0 22 rfl rfl
theorem dksX2_into_2 : cX2_into.data.toList.drop 45 = dktX2_into_2 := dk_seg dksX2_into_1 23 rfl rfl
theorem dksX2_into_3 : cX2_into.data.toList.drop 67 = dktX2_into_3 := dk_seg dksX2_into_2 22 rfl rfl
theorem dksX2_into_4 : cX2_into.data.toList.drop 91 = dktX2_into_4 := dk_seg dksX2_into_3 24 rfl rfl
theorem dksX2_into_5 : cX2_into.data.toList.drop 115 = dktX2_into_5 := dk_seg dksX2_into_4 24 rfl rfl
theorem dksX2_into_6 : cX2_into.data.toList.drop 139 = dktX2_into_6 := dk_seg dksX2_into_5 24 rfl rfl
theorem dksX2_into_7 : cX2_into.data.toList.drop 163 = dktX2_into_7 := dk_seg dksX2_into_6 24 rfl rfl
theorem dksX2_into_8 : cX2_into.data.toList.drop 187 = dktX2_into_8 := dk_seg dksX2_into_7 24 rfl rfl
theorem dksX2_into_9 : cX2_into.data.toList.drop 211 = dktX2_into_9 := dk_seg dksX2_into_8 24 rfl rfl
theorem dksX2_into_10 : cX2_into.data.toList.drop 234 = dktX2_into_10 := dk_seg dksX2_into_9 23 rfl rfl
theorem dksX2_into_11 : cX2_into.data.toList.drop 257 = dktX2_into_11 := dk_seg dksX2_into_10 23 rfl rfl
theorem dksX2_into_12 : cX2_into.data.toList.drop 280 = dktX2_into_12 := dk_seg dksX2_into_11 23 rfl rfl
theorem dksX2_into_13 : cX2_into.data.toList.drop 304 = dktX2_into_13 := dk_seg dksX2_into_12 24 rfl rfl
theorem dksX2_into_14 : cX2_into.data.toList.drop 328 = dktX2_into_14 := dk_seg dksX2_into_13 24 rfl rfl
theorem dksX2_into_15 : cX2_into.data.toList.drop 350 = dktX2_into_15 := dk_seg dksX2_into_14 22 rfl rfl
theorem dksX2_into_16 : cX2_into.data.toList.drop 373 = dktX2_into_16 := dk_seg dksX2_into_15 23 rfl rfl
theorem dX2_into_0 : decode cX2_into 0 = .ok (.aload_n 1, 1) := dk_43 (dk_at dksX2_into_0 0 rfl rfl)
theorem dX2_into_1 : decode cX2_into 1 = .ok (.getfield 47, 3) := dk_180 0 47 (dk_at dksX2_into_0 1 rfl rfl)
theorem dX2_into_4 : decode cX2_into 4 = .ok (.invokevirtual 64, 3) := dk_182 0 64 (dk_at dksX2_into_0 4 rfl rfl)
theorem dX2_into_7 : decode cX2_into 7 = .ok (.aload_n 0, 1) := dk_42 (dk_at dksX2_into_0 7 rfl rfl)
theorem dX2_into_8 : decode cX2_into 8 = .ok (.getfield 47, 3) := dk_180 0 47 (dk_at dksX2_into_0 8 rfl rfl)
theorem dX2_into_11 : decode cX2_into 11 = .ok (.invokevirtual 64, 3) := dk_182 0 64 (dk_at dksX2_into_0 11 rfl rfl)
theorem dX2_into_14 : decode cX2_into 14 = .ok (.if_icmp .le 23, 3) := dk_164 0 23 (dk_at dksX2_into_0 14 rfl rfl)
theorem dX2_into_17 : decode cX2_into 17 = .ok (.aload_n 1, 1) := dk_43 (dk_at dksX2_into_0 17 rfl rfl)
theorem dX2_into_18 : decode cX2_into 18 = .ok (.getfield 47, 3) := dk_180 0 47 (dk_at dksX2_into_0 18 rfl rfl)
theorem dX2_into_21 : decode cX2_into 21 = .ok (.aload_n 1, 1) := dk_43 (dk_at dksX2_into_0 21 rfl rfl)
theorem dX2_into_22 : decode cX2_into 22 = .ok (.getfield 47, 3) := dk_180 0 47 (dk_at dksX2_into_1 0 rfl rfl)
theorem dX2_into_25 : decode cX2_into 25 = .ok (.invokevirtual 64, 3) := dk_182 0 64 (dk_at dksX2_into_1 3 rfl rfl)
theorem dX2_into_28 : decode cX2_into 28 = .ok (.iconst 1, 1) := dk_4 (dk_at dksX2_into_1 6 rfl rfl)
theorem dX2_into_29 : decode cX2_into 29 = .ok (.isub, 1) := dk_100 (dk_at dksX2_into_1 7 rfl rfl)
theorem dX2_into_30 : decode cX2_into 30 = .ok (.invokevirtual 68, 3) := dk_182 0 68 (dk_at dksX2_into_1 8 rfl rfl)
theorem dX2_into_33 : decode cX2_into 33 = .ok (.pop, 1) := dk_87 (dk_at dksX2_into_1 11 rfl rfl)
theorem dX2_into_34 : decode cX2_into 34 = .ok (.goto (-34), 3) := dk_167 255 222 (dk_at dksX2_into_1 12 rfl rfl)
theorem dX2_into_37 : decode cX2_into 37 = .ok (.aload_n 1, 1) := dk_43 (dk_at dksX2_into_1 15 rfl rfl)
theorem dX2_into_38 : decode cX2_into 38 = .ok (.getfield 51, 3) := dk_180 0 51 (dk_at dksX2_into_1 16 rfl rfl)
theorem dX2_into_41 : decode cX2_into 41 = .ok (.invokevirtual 64, 3) := dk_182 0 64 (dk_at dksX2_into_1 19 rfl rfl)
theorem dX2_into_44 : decode cX2_into 44 = .ok (.aload_n 0, 1) := dk_42 (dk_at dksX2_into_1 22 rfl rfl)
theorem dX2_into_45 : decode cX2_into 45 = .ok (.getfield 51, 3) := dk_180 0 51 (dk_at dksX2_into_2 0 rfl rfl)
theorem dX2_into_48 : decode cX2_into 48 = .ok (.invokevirtual 64, 3) := dk_182 0 64 (dk_at dksX2_into_2 3 rfl rfl)
theorem dX2_into_51 : decode cX2_into 51 = .ok (.if_icmp .le 19, 3) := dk_164 0 19 (dk_at dksX2_into_2 6 rfl rfl)
theorem dX2_into_54 : decode cX2_into 54 = .ok (.aload_n 1, 1) := dk_43 (dk_at dksX2_into_2 9 rfl rfl)
theorem dX2_into_55 : decode cX2_into 55 = .ok (.aload_n 1, 1) := dk_43 (dk_at dksX2_into_2 10 rfl rfl)
theorem dX2_into_56 : decode cX2_into 56 = .ok (.getfield 51, 3) := dk_180 0 51 (dk_at dksX2_into_2 11 rfl rfl)
theorem dX2_into_59 : decode cX2_into 59 = .ok (.invokevirtual 64, 3) := dk_182 0 64 (dk_at dksX2_into_2 14 rfl rfl)
theorem dX2_into_62 : decode cX2_into 62 = .ok (.iconst 1, 1) := dk_4 (dk_at dksX2_into_2 17 rfl rfl)
theorem dX2_into_63 : decode cX2_into 63 = .ok (.isub, 1) := dk_100 (dk_at dksX2_into_2 18 rfl rfl)
theorem dX2_into_64 : decode cX2_into 64 = .ok (.invokevirtual 76, 3) := dk_182 0 76 (dk_at dksX2_into_2 19 rfl rfl)
theorem dX2_into_67 : decode cX2_into 67 = .ok (.goto (-30), 3) := dk_167 255 226 (dk_at dksX2_into_3 0 rfl rfl)
theorem dX2_into_70 : decode cX2_into 70 = .ok (.aload_n 1, 1) := dk_43 (dk_at dksX2_into_3 3 rfl rfl)
theorem dX2_into_71 : decode cX2_into 71 = .ok (.aload_n 0, 1) := dk_42 (dk_at dksX2_into_3 4 rfl rfl)
theorem dX2_into_72 : decode cX2_into 72 = .ok (.getfield 9, 3) := dk_180 0 9 (dk_at dksX2_into_3 5 rfl rfl)
theorem dX2_into_75 : decode cX2_into 75 = .ok (.putfield 9, 3) := dk_181 0 9 (dk_at dksX2_into_3 8 rfl rfl)
theorem dX2_into_78 : decode cX2_into 78 = .ok (.aload_n 1, 1) := dk_43 (dk_at dksX2_into_3 11 rfl rfl)
theorem dX2_into_79 : decode cX2_into 79 = .ok (.aload_n 0, 1) := dk_42 (dk_at dksX2_into_3 12 rfl rfl)
theorem dX2_into_80 : decode cX2_into 80 = .ok (.getfield 15, 3) := dk_180 0 15 (dk_at dksX2_into_3 13 rfl rfl)
theorem dX2_into_83 : decode cX2_into 83 = .ok (.putfield 15, 3) := dk_181 0 15 (dk_at dksX2_into_3 16 rfl rfl)
theorem dX2_into_86 : decode cX2_into 86 = .ok (.aload_n 1, 1) := dk_43 (dk_at dksX2_into_3 19 rfl rfl)
theorem dX2_into_87 : decode cX2_into 87 = .ok (.aload_n 0, 1) := dk_42 (dk_at dksX2_into_3 20 rfl rfl)
theorem dX2_into_88 : decode cX2_into 88 = .ok (.getfield 80, 3) := dk_180 0 80 (dk_at dksX2_into_3 21 rfl rfl)
theorem dX2_into_91 : decode cX2_into 91 = .ok (.putfield 80, 3) := dk_181 0 80 (dk_at dksX2_into_4 0 rfl rfl)
theorem dX2_into_94 : decode cX2_into 94 = .ok (.aload_n 1, 1) := dk_43 (dk_at dksX2_into_4 3 rfl rfl)
theorem dX2_into_95 : decode cX2_into 95 = .ok (.aload_n 0, 1) := dk_42 (dk_at dksX2_into_4 4 rfl rfl)
theorem dX2_into_96 : decode cX2_into 96 = .ok (.getfield 83, 3) := dk_180 0 83 (dk_at dksX2_into_4 5 rfl rfl)
theorem dX2_into_99 : decode cX2_into 99 = .ok (.putfield 83, 3) := dk_181 0 83 (dk_at dksX2_into_4 8 rfl rfl)
theorem dX2_into_102 : decode cX2_into 102 = .ok (.aload_n 1, 1) := dk_43 (dk_at dksX2_into_4 11 rfl rfl)
theorem dX2_into_103 : decode cX2_into 103 = .ok (.aload_n 0, 1) := dk_42 (dk_at dksX2_into_4 12 rfl rfl)
theorem dX2_into_104 : decode cX2_into 104 = .ok (.getfield 86, 3) := dk_180 0 86 (dk_at dksX2_into_4 13 rfl rfl)
theorem dX2_into_107 : decode cX2_into 107 = .ok (.putfield 86, 3) := dk_181 0 86 (dk_at dksX2_into_4 16 rfl rfl)
theorem dX2_into_110 : decode cX2_into 110 = .ok (.aload_n 1, 1) := dk_43 (dk_at dksX2_into_4 19 rfl rfl)
theorem dX2_into_111 : decode cX2_into 111 = .ok (.aload_n 0, 1) := dk_42 (dk_at dksX2_into_4 20 rfl rfl)
theorem dX2_into_112 : decode cX2_into 112 = .ok (.getfield 89, 3) := dk_180 0 89 (dk_at dksX2_into_4 21 rfl rfl)
theorem dX2_into_115 : decode cX2_into 115 = .ok (.putfield 89, 3) := dk_181 0 89 (dk_at dksX2_into_5 0 rfl rfl)
theorem dX2_into_118 : decode cX2_into 118 = .ok (.aload_n 1, 1) := dk_43 (dk_at dksX2_into_5 3 rfl rfl)
theorem dX2_into_119 : decode cX2_into 119 = .ok (.aload_n 0, 1) := dk_42 (dk_at dksX2_into_5 4 rfl rfl)
theorem dX2_into_120 : decode cX2_into 120 = .ok (.getfield 92, 3) := dk_180 0 92 (dk_at dksX2_into_5 5 rfl rfl)
theorem dX2_into_123 : decode cX2_into 123 = .ok (.putfield 92, 3) := dk_181 0 92 (dk_at dksX2_into_5 8 rfl rfl)
theorem dX2_into_126 : decode cX2_into 126 = .ok (.aload_n 0, 1) := dk_42 (dk_at dksX2_into_5 11 rfl rfl)
theorem dX2_into_127 : decode cX2_into 127 = .ok (.getfield 18, 3) := dk_180 0 18 (dk_at dksX2_into_5 12 rfl rfl)
theorem dX2_into_130 : decode cX2_into 130 = .ok (.iconst 0, 1) := dk_3 (dk_at dksX2_into_5 15 rfl rfl)
theorem dX2_into_131 : decode cX2_into 131 = .ok (.aload_n 1, 1) := dk_43 (dk_at dksX2_into_5 16 rfl rfl)
theorem dX2_into_132 : decode cX2_into 132 = .ok (.getfield 18, 3) := dk_180 0 18 (dk_at dksX2_into_5 17 rfl rfl)
theorem dX2_into_135 : decode cX2_into 135 = .ok (.iconst 0, 1) := dk_3 (dk_at dksX2_into_5 20 rfl rfl)
theorem dX2_into_136 : decode cX2_into 136 = .ok (.sipush 256, 3) := dk_17 1 0 (dk_at dksX2_into_5 21 rfl rfl)
theorem dX2_into_139 : decode cX2_into 139 = .ok (.invokestatic 95, 3) := dk_184 0 95 (dk_at dksX2_into_6 0 rfl rfl)
theorem dX2_into_142 : decode cX2_into 142 = .ok (.aload_n 0, 1) := dk_42 (dk_at dksX2_into_6 3 rfl rfl)
theorem dX2_into_143 : decode cX2_into 143 = .ok (.getfield 22, 3) := dk_180 0 22 (dk_at dksX2_into_6 4 rfl rfl)
theorem dX2_into_146 : decode cX2_into 146 = .ok (.iconst 0, 1) := dk_3 (dk_at dksX2_into_6 7 rfl rfl)
theorem dX2_into_147 : decode cX2_into 147 = .ok (.aload_n 1, 1) := dk_43 (dk_at dksX2_into_6 8 rfl rfl)
theorem dX2_into_148 : decode cX2_into 148 = .ok (.getfield 22, 3) := dk_180 0 22 (dk_at dksX2_into_6 9 rfl rfl)
theorem dX2_into_151 : decode cX2_into 151 = .ok (.iconst 0, 1) := dk_3 (dk_at dksX2_into_6 12 rfl rfl)
theorem dX2_into_152 : decode cX2_into 152 = .ok (.sipush 256, 3) := dk_17 1 0 (dk_at dksX2_into_6 13 rfl rfl)
theorem dX2_into_155 : decode cX2_into 155 = .ok (.invokestatic 95, 3) := dk_184 0 95 (dk_at dksX2_into_6 16 rfl rfl)
theorem dX2_into_158 : decode cX2_into 158 = .ok (.aload_n 0, 1) := dk_42 (dk_at dksX2_into_6 19 rfl rfl)
theorem dX2_into_159 : decode cX2_into 159 = .ok (.getfield 25, 3) := dk_180 0 25 (dk_at dksX2_into_6 20 rfl rfl)
theorem dX2_into_162 : decode cX2_into 162 = .ok (.iconst 0, 1) := dk_3 (dk_at dksX2_into_6 23 rfl rfl)
theorem dX2_into_163 : decode cX2_into 163 = .ok (.aload_n 1, 1) := dk_43 (dk_at dksX2_into_7 0 rfl rfl)
theorem dX2_into_164 : decode cX2_into 164 = .ok (.getfield 25, 3) := dk_180 0 25 (dk_at dksX2_into_7 1 rfl rfl)
theorem dX2_into_167 : decode cX2_into 167 = .ok (.iconst 0, 1) := dk_3 (dk_at dksX2_into_7 4 rfl rfl)
theorem dX2_into_168 : decode cX2_into 168 = .ok (.sipush 256, 3) := dk_17 1 0 (dk_at dksX2_into_7 5 rfl rfl)
theorem dX2_into_171 : decode cX2_into 171 = .ok (.invokestatic 95, 3) := dk_184 0 95 (dk_at dksX2_into_7 8 rfl rfl)
theorem dX2_into_174 : decode cX2_into 174 = .ok (.aload_n 0, 1) := dk_42 (dk_at dksX2_into_7 11 rfl rfl)
theorem dX2_into_175 : decode cX2_into 175 = .ok (.getfield 28, 3) := dk_180 0 28 (dk_at dksX2_into_7 12 rfl rfl)
theorem dX2_into_178 : decode cX2_into 178 = .ok (.iconst 0, 1) := dk_3 (dk_at dksX2_into_7 15 rfl rfl)
theorem dX2_into_179 : decode cX2_into 179 = .ok (.aload_n 1, 1) := dk_43 (dk_at dksX2_into_7 16 rfl rfl)
theorem dX2_into_180 : decode cX2_into 180 = .ok (.getfield 28, 3) := dk_180 0 28 (dk_at dksX2_into_7 17 rfl rfl)
theorem dX2_into_183 : decode cX2_into 183 = .ok (.iconst 0, 1) := dk_3 (dk_at dksX2_into_7 20 rfl rfl)
theorem dX2_into_184 : decode cX2_into 184 = .ok (.sipush 256, 3) := dk_17 1 0 (dk_at dksX2_into_7 21 rfl rfl)
theorem dX2_into_187 : decode cX2_into 187 = .ok (.invokestatic 95, 3) := dk_184 0 95 (dk_at dksX2_into_8 0 rfl rfl)
theorem dX2_into_190 : decode cX2_into 190 = .ok (.aload_n 0, 1) := dk_42 (dk_at dksX2_into_8 3 rfl rfl)
theorem dX2_into_191 : decode cX2_into 191 = .ok (.getfield 31, 3) := dk_180 0 31 (dk_at dksX2_into_8 4 rfl rfl)
theorem dX2_into_194 : decode cX2_into 194 = .ok (.iconst 0, 1) := dk_3 (dk_at dksX2_into_8 7 rfl rfl)
theorem dX2_into_195 : decode cX2_into 195 = .ok (.aload_n 1, 1) := dk_43 (dk_at dksX2_into_8 8 rfl rfl)
theorem dX2_into_196 : decode cX2_into 196 = .ok (.getfield 31, 3) := dk_180 0 31 (dk_at dksX2_into_8 9 rfl rfl)
theorem dX2_into_199 : decode cX2_into 199 = .ok (.iconst 0, 1) := dk_3 (dk_at dksX2_into_8 12 rfl rfl)
theorem dX2_into_200 : decode cX2_into 200 = .ok (.sipush 256, 3) := dk_17 1 0 (dk_at dksX2_into_8 13 rfl rfl)
theorem dX2_into_203 : decode cX2_into 203 = .ok (.invokestatic 95, 3) := dk_184 0 95 (dk_at dksX2_into_8 16 rfl rfl)
theorem dX2_into_206 : decode cX2_into 206 = .ok (.aload_n 0, 1) := dk_42 (dk_at dksX2_into_8 19 rfl rfl)
theorem dX2_into_207 : decode cX2_into 207 = .ok (.getfield 34, 3) := dk_180 0 34 (dk_at dksX2_into_8 20 rfl rfl)
theorem dX2_into_210 : decode cX2_into 210 = .ok (.iconst 0, 1) := dk_3 (dk_at dksX2_into_8 23 rfl rfl)
theorem dX2_into_211 : decode cX2_into 211 = .ok (.aload_n 1, 1) := dk_43 (dk_at dksX2_into_9 0 rfl rfl)
theorem dX2_into_212 : decode cX2_into 212 = .ok (.getfield 34, 3) := dk_180 0 34 (dk_at dksX2_into_9 1 rfl rfl)
theorem dX2_into_215 : decode cX2_into 215 = .ok (.iconst 0, 1) := dk_3 (dk_at dksX2_into_9 4 rfl rfl)
theorem dX2_into_216 : decode cX2_into 216 = .ok (.sipush 256, 3) := dk_17 1 0 (dk_at dksX2_into_9 5 rfl rfl)
theorem dX2_into_219 : decode cX2_into 219 = .ok (.invokestatic 95, 3) := dk_184 0 95 (dk_at dksX2_into_9 8 rfl rfl)
theorem dX2_into_222 : decode cX2_into 222 = .ok (.aload_n 0, 1) := dk_42 (dk_at dksX2_into_9 11 rfl rfl)
theorem dX2_into_223 : decode cX2_into 223 = .ok (.getfield 37, 3) := dk_180 0 37 (dk_at dksX2_into_9 12 rfl rfl)
theorem dX2_into_226 : decode cX2_into 226 = .ok (.iconst 0, 1) := dk_3 (dk_at dksX2_into_9 15 rfl rfl)
theorem dX2_into_227 : decode cX2_into 227 = .ok (.aload_n 1, 1) := dk_43 (dk_at dksX2_into_9 16 rfl rfl)
theorem dX2_into_228 : decode cX2_into 228 = .ok (.getfield 37, 3) := dk_180 0 37 (dk_at dksX2_into_9 17 rfl rfl)
theorem dX2_into_231 : decode cX2_into 231 = .ok (.iconst 0, 1) := dk_3 (dk_at dksX2_into_9 20 rfl rfl)
theorem dX2_into_232 : decode cX2_into 232 = .ok (.bipush 9, 2) := dk_16 9 (dk_at dksX2_into_9 21 rfl rfl)
theorem dX2_into_234 : decode cX2_into 234 = .ok (.invokestatic 95, 3) := dk_184 0 95 (dk_at dksX2_into_10 0 rfl rfl)
theorem dX2_into_237 : decode cX2_into 237 = .ok (.aload_n 0, 1) := dk_42 (dk_at dksX2_into_10 3 rfl rfl)
theorem dX2_into_238 : decode cX2_into 238 = .ok (.getfield 40, 3) := dk_180 0 40 (dk_at dksX2_into_10 4 rfl rfl)
theorem dX2_into_241 : decode cX2_into 241 = .ok (.iconst 0, 1) := dk_3 (dk_at dksX2_into_10 7 rfl rfl)
theorem dX2_into_242 : decode cX2_into 242 = .ok (.aload_n 1, 1) := dk_43 (dk_at dksX2_into_10 8 rfl rfl)
theorem dX2_into_243 : decode cX2_into 243 = .ok (.getfield 40, 3) := dk_180 0 40 (dk_at dksX2_into_10 9 rfl rfl)
theorem dX2_into_246 : decode cX2_into 246 = .ok (.iconst 0, 1) := dk_3 (dk_at dksX2_into_10 12 rfl rfl)
theorem dX2_into_247 : decode cX2_into 247 = .ok (.sipush 256, 3) := dk_17 1 0 (dk_at dksX2_into_10 13 rfl rfl)
theorem dX2_into_250 : decode cX2_into 250 = .ok (.invokestatic 95, 3) := dk_184 0 95 (dk_at dksX2_into_10 16 rfl rfl)
theorem dX2_into_253 : decode cX2_into 253 = .ok (.iconst 0, 1) := dk_3 (dk_at dksX2_into_10 19 rfl rfl)
theorem dX2_into_254 : decode cX2_into 254 = .ok (.istore_n 2, 1) := dk_61 (dk_at dksX2_into_10 20 rfl rfl)
theorem dX2_into_255 : decode cX2_into 255 = .ok (.iload_n 2, 1) := dk_28 (dk_at dksX2_into_10 21 rfl rfl)
theorem dX2_into_256 : decode cX2_into 256 = .ok (.aload_n 0, 1) := dk_42 (dk_at dksX2_into_10 22 rfl rfl)
theorem dX2_into_257 : decode cX2_into 257 = .ok (.getfield 47, 3) := dk_180 0 47 (dk_at dksX2_into_11 0 rfl rfl)
theorem dX2_into_260 : decode cX2_into 260 = .ok (.invokevirtual 64, 3) := dk_182 0 64 (dk_at dksX2_into_11 3 rfl rfl)
theorem dX2_into_263 : decode cX2_into 263 = .ok (.if_icmp .ge 62, 3) := dk_162 0 62 (dk_at dksX2_into_11 6 rfl rfl)
theorem dX2_into_266 : decode cX2_into 266 = .ok (.aload_n 0, 1) := dk_42 (dk_at dksX2_into_11 9 rfl rfl)
theorem dX2_into_267 : decode cX2_into 267 = .ok (.getfield 47, 3) := dk_180 0 47 (dk_at dksX2_into_11 10 rfl rfl)
theorem dX2_into_270 : decode cX2_into 270 = .ok (.iload_n 2, 1) := dk_28 (dk_at dksX2_into_11 13 rfl rfl)
theorem dX2_into_271 : decode cX2_into 271 = .ok (.invokevirtual 101, 3) := dk_182 0 101 (dk_at dksX2_into_11 14 rfl rfl)
theorem dX2_into_274 : decode cX2_into 274 = .ok (.checkcast 104, 3) := dk_192 0 104 (dk_at dksX2_into_11 17 rfl rfl)
theorem dX2_into_277 : decode cX2_into 277 = .ok (.astore_n 3, 1) := dk_78 (dk_at dksX2_into_11 20 rfl rfl)
theorem dX2_into_278 : decode cX2_into 278 = .ok (.iload_n 2, 1) := dk_28 (dk_at dksX2_into_11 21 rfl rfl)
theorem dX2_into_279 : decode cX2_into 279 = .ok (.aload_n 1, 1) := dk_43 (dk_at dksX2_into_11 22 rfl rfl)
theorem dX2_into_280 : decode cX2_into 280 = .ok (.getfield 47, 3) := dk_180 0 47 (dk_at dksX2_into_12 0 rfl rfl)
theorem dX2_into_283 : decode cX2_into 283 = .ok (.invokevirtual 64, 3) := dk_182 0 64 (dk_at dksX2_into_12 3 rfl rfl)
theorem dX2_into_286 : decode cX2_into 286 = .ok (.if_icmp .ge 21, 3) := dk_162 0 21 (dk_at dksX2_into_12 6 rfl rfl)
theorem dX2_into_289 : decode cX2_into 289 = .ok (.aload_n 1, 1) := dk_43 (dk_at dksX2_into_12 9 rfl rfl)
theorem dX2_into_290 : decode cX2_into 290 = .ok (.getfield 47, 3) := dk_180 0 47 (dk_at dksX2_into_12 10 rfl rfl)
theorem dX2_into_293 : decode cX2_into 293 = .ok (.iload_n 2, 1) := dk_28 (dk_at dksX2_into_12 13 rfl rfl)
theorem dX2_into_294 : decode cX2_into 294 = .ok (.invokevirtual 101, 3) := dk_182 0 101 (dk_at dksX2_into_12 14 rfl rfl)
theorem dX2_into_297 : decode cX2_into 297 = .ok (.checkcast 104, 3) := dk_192 0 104 (dk_at dksX2_into_12 17 rfl rfl)
theorem dX2_into_300 : decode cX2_into 300 = .ok (.aload_n 3, 1) := dk_45 (dk_at dksX2_into_12 20 rfl rfl)
theorem dX2_into_301 : decode cX2_into 301 = .ok (.invokevirtual 106, 3) := dk_182 0 106 (dk_at dksX2_into_12 21 rfl rfl)
theorem dX2_into_304 : decode cX2_into 304 = .ok (.goto 15, 3) := dk_167 0 15 (dk_at dksX2_into_13 0 rfl rfl)
theorem dX2_into_307 : decode cX2_into 307 = .ok (.aload_n 1, 1) := dk_43 (dk_at dksX2_into_13 3 rfl rfl)
theorem dX2_into_308 : decode cX2_into 308 = .ok (.getfield 47, 3) := dk_180 0 47 (dk_at dksX2_into_13 4 rfl rfl)
theorem dX2_into_311 : decode cX2_into 311 = .ok (.aload_n 3, 1) := dk_45 (dk_at dksX2_into_13 7 rfl rfl)
theorem dX2_into_312 : decode cX2_into 312 = .ok (.invokevirtual 110, 3) := dk_182 0 110 (dk_at dksX2_into_13 8 rfl rfl)
theorem dX2_into_315 : decode cX2_into 315 = .ok (.invokevirtual 72, 3) := dk_182 0 72 (dk_at dksX2_into_13 11 rfl rfl)
theorem dX2_into_318 : decode cX2_into 318 = .ok (.pop, 1) := dk_87 (dk_at dksX2_into_13 14 rfl rfl)
theorem dX2_into_319 : decode cX2_into 319 = .ok (.iinc 2 1, 3) := dk_132 2 1 (dk_at dksX2_into_13 15 rfl rfl)
theorem dX2_into_322 : decode cX2_into 322 = .ok (.goto (-67), 3) := dk_167 255 189 (dk_at dksX2_into_13 18 rfl rfl)
theorem dX2_into_325 : decode cX2_into 325 = .ok (.iconst 0, 1) := dk_3 (dk_at dksX2_into_13 21 rfl rfl)
theorem dX2_into_326 : decode cX2_into 326 = .ok (.istore_n 2, 1) := dk_61 (dk_at dksX2_into_13 22 rfl rfl)
theorem dX2_into_327 : decode cX2_into 327 = .ok (.iload_n 2, 1) := dk_28 (dk_at dksX2_into_13 23 rfl rfl)
theorem dX2_into_328 : decode cX2_into 328 = .ok (.aload_n 0, 1) := dk_42 (dk_at dksX2_into_14 0 rfl rfl)
theorem dX2_into_329 : decode cX2_into 329 = .ok (.getfield 51, 3) := dk_180 0 51 (dk_at dksX2_into_14 1 rfl rfl)
theorem dX2_into_332 : decode cX2_into 332 = .ok (.invokevirtual 64, 3) := dk_182 0 64 (dk_at dksX2_into_14 4 rfl rfl)
theorem dX2_into_335 : decode cX2_into 335 = .ok (.if_icmp .ge 57, 3) := dk_162 0 57 (dk_at dksX2_into_14 7 rfl rfl)
theorem dX2_into_338 : decode cX2_into 338 = .ok (.iload_n 2, 1) := dk_28 (dk_at dksX2_into_14 10 rfl rfl)
theorem dX2_into_339 : decode cX2_into 339 = .ok (.aload_n 1, 1) := dk_43 (dk_at dksX2_into_14 11 rfl rfl)
theorem dX2_into_340 : decode cX2_into 340 = .ok (.getfield 51, 3) := dk_180 0 51 (dk_at dksX2_into_14 12 rfl rfl)
theorem dX2_into_343 : decode cX2_into 343 = .ok (.invokevirtual 64, 3) := dk_182 0 64 (dk_at dksX2_into_14 15 rfl rfl)
theorem dX2_into_346 : decode cX2_into 346 = .ok (.if_icmp .ne 15, 3) := dk_160 0 15 (dk_at dksX2_into_14 18 rfl rfl)
theorem dX2_into_349 : decode cX2_into 349 = .ok (.aload_n 1, 1) := dk_43 (dk_at dksX2_into_14 21 rfl rfl)
theorem dX2_into_350 : decode cX2_into 350 = .ok (.getfield 51, 3) := dk_180 0 51 (dk_at dksX2_into_15 0 rfl rfl)
theorem dX2_into_353 : decode cX2_into 353 = .ok (.aload_n 1, 1) := dk_43 (dk_at dksX2_into_15 3 rfl rfl)
theorem dX2_into_354 : decode cX2_into 354 = .ok (.invokevirtual 114, 3) := dk_182 0 114 (dk_at dksX2_into_15 4 rfl rfl)
theorem dX2_into_357 : decode cX2_into 357 = .ok (.invokevirtual 72, 3) := dk_182 0 72 (dk_at dksX2_into_15 7 rfl rfl)
theorem dX2_into_360 : decode cX2_into 360 = .ok (.pop, 1) := dk_87 (dk_at dksX2_into_15 10 rfl rfl)
theorem dX2_into_361 : decode cX2_into 361 = .ok (.aload_n 1, 1) := dk_43 (dk_at dksX2_into_15 11 rfl rfl)
theorem dX2_into_362 : decode cX2_into 362 = .ok (.getfield 51, 3) := dk_180 0 51 (dk_at dksX2_into_15 12 rfl rfl)
theorem dX2_into_365 : decode cX2_into 365 = .ok (.iload_n 2, 1) := dk_28 (dk_at dksX2_into_15 15 rfl rfl)
theorem dX2_into_366 : decode cX2_into 366 = .ok (.invokevirtual 101, 3) := dk_182 0 101 (dk_at dksX2_into_15 16 rfl rfl)
theorem dX2_into_369 : decode cX2_into 369 = .ok (.checkcast 61, 3) := dk_192 0 61 (dk_at dksX2_into_15 19 rfl rfl)
theorem dX2_into_372 : decode cX2_into 372 = .ok (.aload_n 0, 1) := dk_42 (dk_at dksX2_into_15 22 rfl rfl)
theorem dX2_into_373 : decode cX2_into 373 = .ok (.getfield 51, 3) := dk_180 0 51 (dk_at dksX2_into_16 0 rfl rfl)
theorem dX2_into_376 : decode cX2_into 376 = .ok (.iload_n 2, 1) := dk_28 (dk_at dksX2_into_16 3 rfl rfl)
theorem dX2_into_377 : decode cX2_into 377 = .ok (.invokevirtual 101, 3) := dk_182 0 101 (dk_at dksX2_into_16 4 rfl rfl)
theorem dX2_into_380 : decode cX2_into 380 = .ok (.checkcast 61, 3) := dk_192 0 61 (dk_at dksX2_into_16 7 rfl rfl)
theorem dX2_into_383 : decode cX2_into 383 = .ok (.invokevirtual 118, 3) := dk_182 0 118 (dk_at dksX2_into_16 10 rfl rfl)
theorem dX2_into_386 : decode cX2_into 386 = .ok (.iinc 2 1, 3) := dk_132 2 1 (dk_at dksX2_into_16 13 rfl rfl)
theorem dX2_into_389 : decode cX2_into 389 = .ok (.goto (-62), 3) := dk_167 255 194 (dk_at dksX2_into_16 16 rfl rfl)
theorem dX2_into_392 : decode cX2_into 392 = .ok (.aload_n 1, 1) := dk_43 (dk_at dksX2_into_16 19 rfl rfl)
theorem dX2_into_393 : decode cX2_into 393 = .ok (.areturn, 1) := dk_176 (dk_at dksX2_into_16 20 rfl rfl)
abbrev cX2_goWeek : ByteArray := prog_4_method_25_code
def yX2_goWeek : MethodName := ⟨RX2, "goWeek", "(ILGrassPark$Law;[LGrassPark$Habit;)V"⟩
def dkwX2_goWeek_0 : List UInt8 := [42, 27, 44, 45, 182, 1, 10, 42, 44, 182, 1, 14, 177]
abbrev dktX2_goWeek_0 : List UInt8 := dkwX2_goWeek_0 ++ []
theorem dksX2_goWeek_0 : cX2_goWeek.data.toList.drop 0 = dktX2_goWeek_0 := by decide +kernel
theorem dX2_goWeek_0 : decode cX2_goWeek 0 = .ok (.aload_n 0, 1) := dk_42 (dk_at dksX2_goWeek_0 0 rfl rfl)
theorem dX2_goWeek_1 : decode cX2_goWeek 1 = .ok (.iload_n 1, 1) := dk_27 (dk_at dksX2_goWeek_0 1 rfl rfl)
theorem dX2_goWeek_2 : decode cX2_goWeek 2 = .ok (.aload_n 2, 1) := dk_44 (dk_at dksX2_goWeek_0 2 rfl rfl)
theorem dX2_goWeek_3 : decode cX2_goWeek 3 = .ok (.aload_n 3, 1) := dk_45 (dk_at dksX2_goWeek_0 3 rfl rfl)
theorem dX2_goWeek_4 : decode cX2_goWeek 4 = .ok (.invokevirtual 266, 3) := dk_182 1 10 (dk_at dksX2_goWeek_0 4 rfl rfl)
theorem dX2_goWeek_7 : decode cX2_goWeek 7 = .ok (.aload_n 0, 1) := dk_42 (dk_at dksX2_goWeek_0 7 rfl rfl)
theorem dX2_goWeek_8 : decode cX2_goWeek 8 = .ok (.aload_n 2, 1) := dk_44 (dk_at dksX2_goWeek_0 8 rfl rfl)
theorem dX2_goWeek_9 : decode cX2_goWeek 9 = .ok (.invokevirtual 270, 3) := dk_182 1 14 (dk_at dksX2_goWeek_0 9 rfl rfl)
theorem dX2_goWeek_12 : decode cX2_goWeek 12 = .ok (.return_, 1) := dk_177 (dk_at dksX2_goWeek_0 12 rfl rfl)
theorem q118 : (Jvm.Cond.initialized "GrassPark$Ground") ∈ lw_all := lw_g (lw_at lw_m1 2 rfl) rfl
theorem q162 : (Jvm.Cond.instantiable "GrassPark$Ground" (18 : Nat)) ∈ lw_all := lw_g (lw_at lw_m1 46 rfl) rfl
theorem q164 : (Jvm.Cond.instanceMethod ({ cls := "GrassPark$Ground", name := "<init>", desc := "()V" } : Jvm.MethodName)) ∈ lw_all := lw_g (lw_at lw_m1 48 rfl) rfl
theorem q165 : (Jvm.Cond.code ({ cls := "GrassPark$Ground", name := "<init>", desc := "()V" } : Jvm.MethodName) prog_4_method_1_code (1 : Nat) (Option.none : Option Jvm.ClassFile.FieldType)) ∈ lw_all := lw_g (lw_at lw_m1 49 rfl) rfl
theorem q166 : (Jvm.Cond.methodLink "GrassPark$Ground" (3 : Nat) ({ cls := "java/lang/Object", name := "<init>", desc := "()V" } : Jvm.MethodName)) ∈ lw_all := lw_g (lw_at lw_m1 50 rfl) rfl
theorem q167 : (Jvm.Cond.classLink "GrassPark$Ground" (44 : Nat) "java/util/ArrayList") ∈ lw_all := lw_g (lw_at lw_m1 51 rfl) rfl
theorem q169 : (Jvm.Cond.methodLink "GrassPark$Ground" (46 : Nat) ({ cls := "java/util/ArrayList", name := "<init>", desc := "()V" } : Jvm.MethodName)) ∈ lw_all := lw_g (lw_at lw_m1 53 rfl) rfl
theorem q196 : (Jvm.Cond.fieldLink "GrassPark$Ground" (9 : Nat) "GrassPark$Ground" "w" "I") ∈ lw_all := lw_g (lw_at lw_m1 80 rfl) rfl
theorem q198 : (Jvm.Cond.fieldLink "GrassPark$Ground" (15 : Nat) "GrassPark$Ground" "h" "I") ∈ lw_all := lw_g (lw_at lw_m1 82 rfl) rfl
theorem q200 : (Jvm.Cond.fieldLink "GrassPark$Ground" (80 : Nat) "GrassPark$Ground" "tick" "I") ∈ lw_all := lw_g (lw_at lw_m1 84 rfl) rfl
theorem q202 : (Jvm.Cond.fieldLink "GrassPark$Ground" (83 : Nat) "GrassPark$Ground" "arrived" "I") ∈ lw_all := lw_g (lw_at lw_m1 86 rfl) rfl
theorem q204 : (Jvm.Cond.fieldLink "GrassPark$Ground" (86 : Nat) "GrassPark$Ground" "lost" "I") ∈ lw_all := lw_g (lw_at lw_m1 88 rfl) rfl
theorem q206 : (Jvm.Cond.fieldLink "GrassPark$Ground" (89 : Nat) "GrassPark$Ground" "turned" "I") ∈ lw_all := lw_g (lw_at lw_m1 90 rfl) rfl
theorem q208 : (Jvm.Cond.fieldLink "GrassPark$Ground" (18 : Nat) "GrassPark$Ground" "kind" "[I") ∈ lw_all := lw_g (lw_at lw_m1 92 rfl) rfl
theorem q211 : (Jvm.Cond.fieldLink "GrassPark$Ground" (22 : Nat) "GrassPark$Ground" "height" "[I") ∈ lw_all := lw_g (lw_at lw_m1 95 rfl) rfl
theorem q214 : (Jvm.Cond.fieldLink "GrassPark$Ground" (25 : Nat) "GrassPark$Ground" "wear" "[I") ∈ lw_all := lw_g (lw_at lw_m1 98 rfl) rfl
theorem q217 : (Jvm.Cond.fieldLink "GrassPark$Ground" (28 : Nat) "GrassPark$Ground" "wet" "[I") ∈ lw_all := lw_g (lw_at lw_m1 101 rfl) rfl
theorem q220 : (Jvm.Cond.fieldLink "GrassPark$Ground" (31 : Nat) "GrassPark$Ground" "trod" "[I") ∈ lw_all := lw_g (lw_at lw_m1 104 rfl) rfl
theorem q223 : (Jvm.Cond.fieldLink "GrassPark$Ground" (34 : Nat) "GrassPark$Ground" "snow" "[I") ∈ lw_all := lw_g (lw_at lw_m1 107 rfl) rfl
theorem q225 : (Jvm.Cond.fieldLink "GrassPark$Ground" (37 : Nat) "GrassPark$Ground" "doors" "[I") ∈ lw_all := lw_g (lw_at lw_m1 109 rfl) rfl
theorem q227 : (Jvm.Cond.fieldLink "GrassPark$Ground" (40 : Nat) "GrassPark$Ground" "sign" "[Z") ∈ lw_all := lw_g (lw_at lw_m1 111 rfl) rfl
theorem q230 : (Jvm.Cond.fieldLink "GrassPark$Ground" (92 : Nat) "GrassPark$Ground" "doorMany" "I") ∈ lw_all := lw_g (lw_at lw_m1 114 rfl) rfl
theorem q232 : (Jvm.Cond.fieldLink "GrassPark$Ground" (47 : Nat) "GrassPark$Ground" "wishes" "Ljava/util/ArrayList;") ∈ lw_all := lw_g (lw_at lw_m1 116 rfl) rfl
theorem q234 : (Jvm.Cond.fieldLink "GrassPark$Ground" (51 : Nat) "GrassPark$Ground" "walkers" "Ljava/util/ArrayList;") ∈ lw_all := lw_g (lw_at lw_m1 118 rfl) rfl
theorem q236 : (Jvm.Cond.fieldLink "GrassPark$Ground" (54 : Nat) "GrassPark$Ground" "spare" "Ljava/util/ArrayList;") ∈ lw_all := lw_g (lw_at lw_m1 120 rfl) rfl
theorem q237 : (Jvm.Cond.lays "GrassPark$Ground" "GrassPark$Ground" "w" "I") ∈ lw_all := lw_g (lw_at lw_m1 121 rfl) rfl
theorem q238 : (Jvm.Cond.soleField "GrassPark$Ground" "w") ∈ lw_all := lw_g (lw_at lw_m1 122 rfl) rfl
theorem q239 : (Jvm.Cond.lays "GrassPark$Ground" "GrassPark$Ground" "h" "I") ∈ lw_all := lw_g (lw_at lw_m1 123 rfl) rfl
theorem q240 : (Jvm.Cond.soleField "GrassPark$Ground" "h") ∈ lw_all := lw_g (lw_at lw_m1 124 rfl) rfl
theorem q241 : (Jvm.Cond.lays "GrassPark$Ground" "GrassPark$Ground" "tick" "I") ∈ lw_all := lw_g (lw_at lw_m1 125 rfl) rfl
theorem q242 : (Jvm.Cond.soleField "GrassPark$Ground" "tick") ∈ lw_all := lw_g (lw_at lw_m1 126 rfl) rfl
theorem q243 : (Jvm.Cond.lays "GrassPark$Ground" "GrassPark$Ground" "arrived" "I") ∈ lw_all := lw_g (lw_at lw_m1 127 rfl) rfl
theorem q244 : (Jvm.Cond.soleField "GrassPark$Ground" "arrived") ∈ lw_all := lw_g (lw_at lw_m1 128 rfl) rfl
theorem q245 : (Jvm.Cond.lays "GrassPark$Ground" "GrassPark$Ground" "lost" "I") ∈ lw_all := lw_g (lw_at lw_m1 129 rfl) rfl
theorem q246 : (Jvm.Cond.soleField "GrassPark$Ground" "lost") ∈ lw_all := lw_g (lw_at lw_m1 130 rfl) rfl
theorem q247 : (Jvm.Cond.lays "GrassPark$Ground" "GrassPark$Ground" "turned" "I") ∈ lw_all := lw_g (lw_at lw_m1 131 rfl) rfl
theorem q248 : (Jvm.Cond.soleField "GrassPark$Ground" "turned") ∈ lw_all := lw_g (lw_at lw_m1 132 rfl) rfl
theorem q249 : (Jvm.Cond.laysFinal "GrassPark$Ground" "GrassPark$Ground" "kind" "[I") ∈ lw_all := lw_g (lw_at lw_m1 133 rfl) rfl
theorem q250 : (Jvm.Cond.soleField "GrassPark$Ground" "kind") ∈ lw_all := lw_g (lw_at lw_m1 134 rfl) rfl
theorem q251 : (Jvm.Cond.laysFinal "GrassPark$Ground" "GrassPark$Ground" "height" "[I") ∈ lw_all := lw_g (lw_at lw_m1 135 rfl) rfl
theorem q252 : (Jvm.Cond.soleField "GrassPark$Ground" "height") ∈ lw_all := lw_g (lw_at lw_m1 136 rfl) rfl
theorem q253 : (Jvm.Cond.laysFinal "GrassPark$Ground" "GrassPark$Ground" "wear" "[I") ∈ lw_all := lw_g (lw_at lw_m1 137 rfl) rfl
theorem q254 : (Jvm.Cond.soleField "GrassPark$Ground" "wear") ∈ lw_all := lw_g (lw_at lw_m1 138 rfl) rfl
theorem q255 : (Jvm.Cond.laysFinal "GrassPark$Ground" "GrassPark$Ground" "wet" "[I") ∈ lw_all := lw_g (lw_at lw_m1 139 rfl) rfl
theorem q256 : (Jvm.Cond.soleField "GrassPark$Ground" "wet") ∈ lw_all := lw_g (lw_at lw_m1 140 rfl) rfl
theorem q257 : (Jvm.Cond.laysFinal "GrassPark$Ground" "GrassPark$Ground" "trod" "[I") ∈ lw_all := lw_g (lw_at lw_m1 141 rfl) rfl
theorem q258 : (Jvm.Cond.soleField "GrassPark$Ground" "trod") ∈ lw_all := lw_g (lw_at lw_m1 142 rfl) rfl
theorem q259 : (Jvm.Cond.laysFinal "GrassPark$Ground" "GrassPark$Ground" "snow" "[I") ∈ lw_all := lw_g (lw_at lw_m1 143 rfl) rfl
theorem q260 : (Jvm.Cond.soleField "GrassPark$Ground" "snow") ∈ lw_all := lw_g (lw_at lw_m1 144 rfl) rfl
theorem q261 : (Jvm.Cond.laysFinal "GrassPark$Ground" "GrassPark$Ground" "doors" "[I") ∈ lw_all := lw_g (lw_at lw_m1 145 rfl) rfl
theorem q262 : (Jvm.Cond.soleField "GrassPark$Ground" "doors") ∈ lw_all := lw_g (lw_at lw_m1 146 rfl) rfl
theorem q263 : (Jvm.Cond.laysFinal "GrassPark$Ground" "GrassPark$Ground" "sign" "[Z") ∈ lw_all := lw_g (lw_at lw_m1 147 rfl) rfl
theorem q264 : (Jvm.Cond.soleField "GrassPark$Ground" "sign") ∈ lw_all := lw_g (lw_at lw_m1 148 rfl) rfl
theorem q265 : (Jvm.Cond.lays "GrassPark$Ground" "GrassPark$Ground" "doorMany" "I") ∈ lw_all := lw_g (lw_at lw_m1 149 rfl) rfl
theorem q266 : (Jvm.Cond.soleField "GrassPark$Ground" "doorMany") ∈ lw_all := lw_g (lw_at lw_m1 150 rfl) rfl
theorem q267 : (Jvm.Cond.laysFinal "GrassPark$Ground" "GrassPark$Ground" "wishes" "Ljava/util/ArrayList;") ∈ lw_all := lw_g (lw_at lw_m1 151 rfl) rfl
theorem q268 : (Jvm.Cond.soleField "GrassPark$Ground" "wishes") ∈ lw_all := lw_g (lw_at lw_m1 152 rfl) rfl
theorem q269 : (Jvm.Cond.lays "GrassPark$Ground" "GrassPark$Ground" "walkers" "Ljava/util/ArrayList;") ∈ lw_all := lw_g (lw_at lw_m1 153 rfl) rfl
theorem q270 : (Jvm.Cond.soleField "GrassPark$Ground" "walkers") ∈ lw_all := lw_g (lw_at lw_m1 154 rfl) rfl
theorem q271 : (Jvm.Cond.laysFinal "GrassPark$Ground" "GrassPark$Ground" "spare" "Ljava/util/ArrayList;") ∈ lw_all := lw_g (lw_at lw_m1 155 rfl) rfl
theorem q272 : (Jvm.Cond.soleField "GrassPark$Ground" "spare") ∈ lw_all := lw_g (lw_at lw_m1 156 rfl) rfl
theorem q273 : (Jvm.Cond.superclass "GrassPark$Ground" "java/lang/Object") ∈ lw_all := lw_g (lw_at lw_m1 157 rfl) rfl
theorem q285 : (Jvm.Cond.fieldLinkNest "GrassPark$Ground" (128 : Nat) "GrassPark$Law" "line" "I" "GrassPark") ∈ lw_tbl := lw_at lw_m1 169 rfl
theorem q288 : (Jvm.Cond.fieldLinkNest "GrassPark$Ground" (137 : Nat) "GrassPark$Law" "mud" "I" "GrassPark") ∈ lw_tbl := lw_at lw_m1 172 rfl
theorem q292 : (Jvm.Cond.fieldLinkNest "GrassPark$Ground" (260 : Nat) "GrassPark$Law" "dry" "I" "GrassPark") ∈ lw_tbl := lw_at lw_m1 176 rfl
theorem q318 : (Jvm.Cond.fieldLinkNest "GrassPark$Ground" (197 : Nat) "GrassPark$Habit" "lines" "Ljava/util/ArrayList;" "GrassPark") ∈ lw_tbl := lw_at lw_m1 202 rfl
theorem q321 : (Jvm.Cond.fieldLinkNest "GrassPark$Ground" (182 : Nat) "GrassPark$Habit" "sight" "I" "GrassPark") ∈ lw_tbl := lw_at lw_m1 205 rfl
theorem q429 : (Jvm.Cond.instanceMethod ({ cls := "GrassPark$Ground", name := "isCell", desc := "(I)Z" } : Jvm.MethodName)) ∈ lw_all := lw_g (lw_at lw_m2 73 rfl) rfl
theorem q430 : (Jvm.Cond.selects "GrassPark$Ground" ({ cls := "GrassPark$Ground", name := "isCell", desc := "(I)Z" } : Jvm.MethodName) ({ cls := "GrassPark$Ground", name := "isCell", desc := "(I)Z" } : Jvm.MethodName)) ∈ lw_all := lw_g (lw_at lw_m2 74 rfl) rfl
theorem q431 : (Jvm.Cond.code ({ cls := "GrassPark$Ground", name := "isCell", desc := "(I)Z" } : Jvm.MethodName) prog_4_method_6_code (2 : Nat) (Option.some Jvm.ClassFile.FieldType.boolean)) ∈ lw_all := lw_g (lw_at lw_m2 75 rfl) rfl
theorem q432 : (Jvm.Cond.methodLink "GrassPark$Ground" (121 : Nat) ({ cls := "GrassPark$Ground", name := "cells", desc := "()I" } : Jvm.MethodName)) ∈ lw_all := lw_g (lw_at lw_m2 76 rfl) rfl
theorem q433 : (Jvm.Cond.instanceMethod ({ cls := "GrassPark$Ground", name := "cells", desc := "()I" } : Jvm.MethodName)) ∈ lw_all := lw_g (lw_at lw_m2 77 rfl) rfl
theorem q434 : (Jvm.Cond.selects "GrassPark$Ground" ({ cls := "GrassPark$Ground", name := "cells", desc := "()I" } : Jvm.MethodName) ({ cls := "GrassPark$Ground", name := "cells", desc := "()I" } : Jvm.MethodName)) ∈ lw_all := lw_g (lw_at lw_m2 78 rfl) rfl
theorem q435 : (Jvm.Cond.code ({ cls := "GrassPark$Ground", name := "cells", desc := "()I" } : Jvm.MethodName) prog_4_method_5_code (1 : Nat) (Option.some Jvm.ClassFile.FieldType.int)) ∈ lw_all := lw_g (lw_at lw_m2 79 rfl) rfl
theorem q436 : (Jvm.Cond.methodLinkNest "GrassPark$Ground" (124 : Nat) ({ cls := "GrassPark", name := "isIn", desc := "(III)Z" } : Jvm.MethodName) "GrassPark") ∈ lw_tbl := lw_at lw_m2 80 rfl
theorem q438 : (Jvm.Cond.instanceMethod ({ cls := "GrassPark$Ground", name := "isFree", desc := "(I)Z" } : Jvm.MethodName)) ∈ lw_all := lw_g (lw_at lw_m2 82 rfl) rfl
theorem q439 : (Jvm.Cond.selects "GrassPark$Ground" ({ cls := "GrassPark$Ground", name := "isFree", desc := "(I)Z" } : Jvm.MethodName) ({ cls := "GrassPark$Ground", name := "isFree", desc := "(I)Z" } : Jvm.MethodName)) ∈ lw_all := lw_g (lw_at lw_m2 83 rfl) rfl
theorem q440 : (Jvm.Cond.code ({ cls := "GrassPark$Ground", name := "isFree", desc := "(I)Z" } : Jvm.MethodName) prog_4_method_7_code (2 : Nat) (Option.some Jvm.ClassFile.FieldType.boolean)) ∈ lw_all := lw_g (lw_at lw_m2 84 rfl) rfl
theorem q442 : (Jvm.Cond.instanceMethod ({ cls := "GrassPark$Ground", name := "isDoor", desc := "(I)Z" } : Jvm.MethodName)) ∈ lw_all := lw_g (lw_at lw_m2 86 rfl) rfl
theorem q443 : (Jvm.Cond.selects "GrassPark$Ground" ({ cls := "GrassPark$Ground", name := "isDoor", desc := "(I)Z" } : Jvm.MethodName) ({ cls := "GrassPark$Ground", name := "isDoor", desc := "(I)Z" } : Jvm.MethodName)) ∈ lw_all := lw_g (lw_at lw_m2 87 rfl) rfl
theorem q444 : (Jvm.Cond.code ({ cls := "GrassPark$Ground", name := "isDoor", desc := "(I)Z" } : Jvm.MethodName) prog_4_method_12_code (3 : Nat) (Option.some Jvm.ClassFile.FieldType.boolean)) ∈ lw_all := lw_g (lw_at lw_m2 88 rfl) rfl
theorem q1033 : (Jvm.Cond.fieldLinkNest "GrassPark$Ground" (206 : Nat) "GrassPark$Line" "what" "I" "GrassPark") ∈ lw_tbl := lw_at lw_m4 197 rfl
theorem q1036 : (Jvm.Cond.fieldLinkNest "GrassPark$Ground" (210 : Nat) "GrassPark$Line" "number" "I" "GrassPark") ∈ lw_tbl := lw_at lw_m4 200 rfl
theorem q1072 : (Jvm.Cond.selects "GrassPark$Ground" ({ cls := "java/lang/Object", name := "getClass", desc := "()Ljava/lang/Class;" } : Jvm.MethodName) ({ cls := "java/lang/Object", name := "getClass", desc := "()Ljava/lang/Class;" } : Jvm.MethodName)) ∈ lw_all := lw_g (lw_at lw_m4 236 rfl) rfl
theorem q1143 : (Jvm.Cond.fieldLinkNest "GrassPark$Ground" (235 : Nat) "GrassPark$Wish" "from" "I" "GrassPark") ∈ lw_tbl := lw_at lw_m5 67 rfl
theorem q1145 : (Jvm.Cond.fieldLinkNest "GrassPark$Ground" (238 : Nat) "GrassPark$Wish" "to" "I" "GrassPark") ∈ lw_tbl := lw_at lw_m5 69 rfl
theorem q1147 : (Jvm.Cond.fieldLinkNest "GrassPark$Ground" (241 : Nat) "GrassPark$Wish" "habit" "I" "GrassPark") ∈ lw_tbl := lw_at lw_m5 71 rfl
theorem q1191 : (Jvm.Cond.instanceMethod ({ cls := "GrassPark$Ground", name := "go", desc := "(ILGrassPark$Law;[LGrassPark$Habit;)V" } : Jvm.MethodName)) ∈ lw_all := lw_g (lw_at lw_m5 115 rfl) rfl
theorem q1192 : (Jvm.Cond.selects "GrassPark$Ground" ({ cls := "GrassPark$Ground", name := "go", desc := "(ILGrassPark$Law;[LGrassPark$Habit;)V" } : Jvm.MethodName) ({ cls := "GrassPark$Ground", name := "go", desc := "(ILGrassPark$Law;[LGrassPark$Habit;)V" } : Jvm.MethodName)) ∈ lw_all := lw_g (lw_at lw_m5 116 rfl) rfl
theorem q1193 : (Jvm.Cond.code ({ cls := "GrassPark$Ground", name := "go", desc := "(ILGrassPark$Law;[LGrassPark$Habit;)V" } : Jvm.MethodName) prog_4_method_24_code (5 : Nat) (Option.none : Option Jvm.ClassFile.FieldType)) ∈ lw_all := lw_g (lw_at lw_m5 117 rfl) rfl
theorem q1194 : (Jvm.Cond.methodLink "GrassPark$Ground" (263 : Nat) ({ cls := "GrassPark$Ground", name := "tick", desc := "(LGrassPark$Law;[LGrassPark$Habit;)V" } : Jvm.MethodName)) ∈ lw_all := lw_g (lw_at lw_m5 118 rfl) rfl
theorem q1195 : (Jvm.Cond.instanceMethod ({ cls := "GrassPark$Ground", name := "tick", desc := "(LGrassPark$Law;[LGrassPark$Habit;)V" } : Jvm.MethodName)) ∈ lw_all := lw_g (lw_at lw_m5 119 rfl) rfl
theorem q1196 : (Jvm.Cond.selects "GrassPark$Ground" ({ cls := "GrassPark$Ground", name := "tick", desc := "(LGrassPark$Law;[LGrassPark$Habit;)V" } : Jvm.MethodName) ({ cls := "GrassPark$Ground", name := "tick", desc := "(LGrassPark$Law;[LGrassPark$Habit;)V" } : Jvm.MethodName)) ∈ lw_all := lw_g (lw_at lw_m5 120 rfl) rfl
theorem q1197 : (Jvm.Cond.code ({ cls := "GrassPark$Ground", name := "tick", desc := "(LGrassPark$Law;[LGrassPark$Habit;)V" } : Jvm.MethodName) prog_4_method_22_code (5 : Nat) (Option.none : Option Jvm.ClassFile.FieldType)) ∈ lw_all := lw_g (lw_at lw_m5 121 rfl) rfl
theorem q1198 : (Jvm.Cond.methodLink "GrassPark$Ground" (64 : Nat) ({ cls := "java/util/ArrayList", name := "size", desc := "()I" } : Jvm.MethodName)) ∈ lw_all := lw_g (lw_at lw_m5 122 rfl) rfl
theorem q1199 : (Jvm.Cond.methodLink "GrassPark$Ground" (101 : Nat) ({ cls := "java/util/ArrayList", name := "get", desc := "(I)Ljava/lang/Object;" } : Jvm.MethodName)) ∈ lw_all := lw_g (lw_at lw_m5 123 rfl) rfl
theorem q1200 : (Jvm.Cond.classLink "GrassPark$Ground" (104 : Nat) "GrassPark$Wish") ∈ lw_all := lw_g (lw_at lw_m5 124 rfl) rfl
theorem q1201 : (Jvm.Cond.methodLink "GrassPark$Ground" (232 : Nat) ({ cls := "GrassPark$Wish", name := "isDue", desc := "(I)Z" } : Jvm.MethodName)) ∈ lw_all := lw_g (lw_at lw_m5 125 rfl) rfl
theorem q1205 : (Jvm.Cond.methodLink "GrassPark$Ground" (114 : Nat) ({ cls := "GrassPark$Ground", name := "fresh", desc := "()LGrassPark$Walker;" } : Jvm.MethodName)) ∈ lw_all := lw_g (lw_at lw_m5 129 rfl) rfl
theorem q1206 : (Jvm.Cond.privateMethod ({ cls := "GrassPark$Ground", name := "fresh", desc := "()LGrassPark$Walker;" } : Jvm.MethodName)) ∈ lw_tbl := lw_at lw_m5 130 rfl
theorem q1207 : (Jvm.Cond.instanceMethod ({ cls := "GrassPark$Ground", name := "fresh", desc := "()LGrassPark$Walker;" } : Jvm.MethodName)) ∈ lw_all := lw_g (lw_at lw_m5 131 rfl) rfl
theorem q1208 : (Jvm.Cond.code ({ cls := "GrassPark$Ground", name := "fresh", desc := "()LGrassPark$Walker;" } : Jvm.MethodName) prog_4_method_2_code (1 : Nat) (Option.some (Jvm.ClassFile.FieldType.object "GrassPark$Walker"))) ∈ lw_all := lw_g (lw_at lw_m5 132 rfl) rfl
theorem q1209 : (Jvm.Cond.methodLink "GrassPark$Ground" (57 : Nat) ({ cls := "java/util/ArrayList", name := "isEmpty", desc := "()Z" } : Jvm.MethodName)) ∈ lw_all := lw_g (lw_at lw_m5 133 rfl) rfl
theorem q1213 : (Jvm.Cond.classLink "GrassPark$Ground" (61 : Nat) "GrassPark$Walker") ∈ lw_all := lw_g (lw_at lw_m5 137 rfl) rfl
theorem q1215 : (Jvm.Cond.methodLinkNest "GrassPark$Ground" (63 : Nat) ({ cls := "GrassPark$Walker", name := "<init>", desc := "()V" } : Jvm.MethodName) "GrassPark") ∈ lw_tbl := lw_at lw_m5 139 rfl
theorem q1220 : (Jvm.Cond.fieldLinkNest "GrassPark$Ground" (191 : Nat) "GrassPark$Walker" "goal" "I" "GrassPark") ∈ lw_tbl := lw_at lw_m5 144 rfl
theorem q1223 : (Jvm.Cond.fieldLinkNest "GrassPark$Ground" (248 : Nat) "GrassPark$Walker" "habit" "I" "GrassPark") ∈ lw_tbl := lw_at lw_m5 147 rfl
theorem q1227 : (Jvm.Cond.fieldLinkNest "GrassPark$Ground" (146 : Nat) "GrassPark$Walker" "at" "I" "GrassPark") ∈ lw_tbl := lw_at lw_m5 151 rfl
theorem q1230 : (Jvm.Cond.fieldLinkNest "GrassPark$Ground" (221 : Nat) "GrassPark$Walker" "age" "I" "GrassPark") ∈ lw_tbl := lw_at lw_m5 154 rfl
theorem q1233 : (Jvm.Cond.fieldLinkNest "GrassPark$Ground" (176 : Nat) "GrassPark$Walker" "way" "I" "GrassPark") ∈ lw_tbl := lw_at lw_m5 157 rfl
theorem q1235 : (Jvm.Cond.fieldLinkNest "GrassPark$Ground" (179 : Nat) "GrassPark$Walker" "came" "I" "GrassPark") ∈ lw_tbl := lw_at lw_m5 159 rfl
theorem q1251 : (Jvm.Cond.methodLink "GrassPark$Ground" (68 : Nat) ({ cls := "java/util/ArrayList", name := "remove", desc := "(I)Ljava/lang/Object;" } : Jvm.MethodName)) ∈ lw_all := lw_g (lw_at lw_m5 175 rfl) rfl
theorem q1260 : (Jvm.Cond.methodLink "GrassPark$Ground" (244 : Nat) ({ cls := "GrassPark$Walker", name := "begin", desc := "(IIII)LGrassPark$Walker;" } : Jvm.MethodName)) ∈ lw_all := lw_g (lw_at lw_m5 184 rfl) rfl
theorem q1264 : (Jvm.Cond.methodLink "GrassPark$Ground" (72 : Nat) ({ cls := "java/util/ArrayList", name := "add", desc := "(Ljava/lang/Object;)Z" } : Jvm.MethodName)) ∈ lw_all := lw_g (lw_at lw_m5 188 rfl) rfl
theorem q1265 : (Jvm.Cond.methodLink "GrassPark$Ground" (249 : Nat) ({ cls := "GrassPark$Ground", name := "steps", desc := "(LGrassPark$Walker;LGrassPark$Habit;LGrassPark$Law;)Z" } : Jvm.MethodName)) ∈ lw_all := lw_g (lw_at lw_m5 189 rfl) rfl
theorem q1266 : (Jvm.Cond.privateMethod ({ cls := "GrassPark$Ground", name := "steps", desc := "(LGrassPark$Walker;LGrassPark$Habit;LGrassPark$Law;)Z" } : Jvm.MethodName)) ∈ lw_tbl := lw_at lw_m5 190 rfl
theorem q1267 : (Jvm.Cond.instanceMethod ({ cls := "GrassPark$Ground", name := "steps", desc := "(LGrassPark$Walker;LGrassPark$Habit;LGrassPark$Law;)Z" } : Jvm.MethodName)) ∈ lw_all := lw_g (lw_at lw_m5 191 rfl) rfl
theorem q1268 : (Jvm.Cond.code ({ cls := "GrassPark$Ground", name := "steps", desc := "(LGrassPark$Walker;LGrassPark$Habit;LGrassPark$Law;)Z" } : Jvm.MethodName) prog_4_method_20_code (5 : Nat) (Option.some Jvm.ClassFile.FieldType.boolean)) ∈ lw_all := lw_g (lw_at lw_m5 192 rfl) rfl
theorem q1269 : (Jvm.Cond.methodLink "GrassPark$Ground" (224 : Nat) ({ cls := "GrassPark$Ground", name := "wayOf", desc := "(LGrassPark$Walker;LGrassPark$Habit;LGrassPark$Law;)I" } : Jvm.MethodName)) ∈ lw_all := lw_g (lw_at lw_m5 193 rfl) rfl
theorem q1270 : (Jvm.Cond.privateMethod ({ cls := "GrassPark$Ground", name := "wayOf", desc := "(LGrassPark$Walker;LGrassPark$Habit;LGrassPark$Law;)I" } : Jvm.MethodName)) ∈ lw_tbl := lw_at lw_m5 194 rfl
theorem q1271 : (Jvm.Cond.instanceMethod ({ cls := "GrassPark$Ground", name := "wayOf", desc := "(LGrassPark$Walker;LGrassPark$Habit;LGrassPark$Law;)I" } : Jvm.MethodName)) ∈ lw_all := lw_g (lw_at lw_m5 195 rfl) rfl
theorem q1272 : (Jvm.Cond.code ({ cls := "GrassPark$Ground", name := "wayOf", desc := "(LGrassPark$Walker;LGrassPark$Habit;LGrassPark$Law;)I" } : Jvm.MethodName) prog_4_method_19_code (9 : Nat) (Option.some Jvm.ClassFile.FieldType.int)) ∈ lw_all := lw_g (lw_at lw_m5 196 rfl) rfl
theorem q1273 : (Jvm.Cond.constant "GrassPark$Ground" (209 : Nat) (268435456 : Int32)) ∈ lw_all := lw_g (lw_at lw_m5 197 rfl) rfl
theorem q1274 : (Jvm.Cond.methodLink "GrassPark$Ground" (166 : Nat) ({ cls := "GrassPark$Ground", name := "beside", desc := "(II)I" } : Jvm.MethodName)) ∈ lw_all := lw_g (lw_at lw_m5 198 rfl) rfl
theorem q1275 : (Jvm.Cond.instanceMethod ({ cls := "GrassPark$Ground", name := "beside", desc := "(II)I" } : Jvm.MethodName)) ∈ lw_all := lw_g (lw_at lw_m5 199 rfl) rfl
theorem q1276 : (Jvm.Cond.selects "GrassPark$Ground" ({ cls := "GrassPark$Ground", name := "beside", desc := "(II)I" } : Jvm.MethodName) ({ cls := "GrassPark$Ground", name := "beside", desc := "(II)I" } : Jvm.MethodName)) ∈ lw_all := lw_g (lw_at lw_m5 200 rfl) rfl
theorem q1277 : (Jvm.Cond.code ({ cls := "GrassPark$Ground", name := "beside", desc := "(II)I" } : Jvm.MethodName) prog_4_method_11_code (5 : Nat) (Option.some Jvm.ClassFile.FieldType.int)) ∈ lw_all := lw_g (lw_at lw_m5 201 rfl) rfl
theorem q1278 : (Jvm.Cond.fieldLink "GrassPark$Ground" (140 : Nat) "GrassPark$Ground" "EAST" "[I") ∈ lw_all := lw_g (lw_at lw_m5 202 rfl) rfl
theorem q1279 : (Jvm.Cond.laysStatic "GrassPark$Ground" "EAST" "[I") ∈ lw_tbl := lw_at lw_m5 203 rfl
theorem q1280 : (Jvm.Cond.fieldLink "GrassPark$Ground" (143 : Nat) "GrassPark$Ground" "SOUTH" "[I") ∈ lw_all := lw_g (lw_at lw_m5 204 rfl) rfl
theorem q1281 : (Jvm.Cond.laysStatic "GrassPark$Ground" "SOUTH" "[I") ∈ lw_tbl := lw_at lw_m5 205 rfl
theorem q1282 : (Jvm.Cond.methodLink "GrassPark$Ground" (162 : Nat) ({ cls := "GrassPark$Ground", name := "isFree", desc := "(I)Z" } : Jvm.MethodName)) ∈ lw_all := lw_g (lw_at lw_m5 206 rfl) rfl
theorem q1283 : (Jvm.Cond.methodLink "GrassPark$Ground" (217 : Nat) ({ cls := "GrassPark$Ground", name := "weight", desc := "(LGrassPark$Walker;IILGrassPark$Habit;LGrassPark$Law;)I" } : Jvm.MethodName)) ∈ lw_all := lw_g (lw_at lw_m5 207 rfl) rfl
theorem q1284 : (Jvm.Cond.privateMethod ({ cls := "GrassPark$Ground", name := "weight", desc := "(LGrassPark$Walker;IILGrassPark$Habit;LGrassPark$Law;)I" } : Jvm.MethodName)) ∈ lw_tbl := lw_at lw_m5 208 rfl
theorem q1285 : (Jvm.Cond.instanceMethod ({ cls := "GrassPark$Ground", name := "weight", desc := "(LGrassPark$Walker;IILGrassPark$Habit;LGrassPark$Law;)I" } : Jvm.MethodName)) ∈ lw_all := lw_g (lw_at lw_m5 209 rfl) rfl
theorem q1286 : (Jvm.Cond.code ({ cls := "GrassPark$Ground", name := "weight", desc := "(LGrassPark$Walker;IILGrassPark$Habit;LGrassPark$Law;)I" } : Jvm.MethodName) prog_4_method_18_code (9 : Nat) (Option.some Jvm.ClassFile.FieldType.int)) ∈ lw_all := lw_g (lw_at lw_m5 210 rfl) rfl
theorem q1287 : (Jvm.Cond.methodLink "GrassPark$Ground" (194 : Nat) ({ cls := "GrassPark$Ground", name := "far", desc := "(II)I" } : Jvm.MethodName)) ∈ lw_all := lw_g (lw_at lw_m5 211 rfl) rfl
theorem q1288 : (Jvm.Cond.privateMethod ({ cls := "GrassPark$Ground", name := "far", desc := "(II)I" } : Jvm.MethodName)) ∈ lw_tbl := lw_at lw_m5 212 rfl
theorem q1289 : (Jvm.Cond.instanceMethod ({ cls := "GrassPark$Ground", name := "far", desc := "(II)I" } : Jvm.MethodName)) ∈ lw_all := lw_g (lw_at lw_m5 213 rfl) rfl
theorem q1290 : (Jvm.Cond.code ({ cls := "GrassPark$Ground", name := "far", desc := "(II)I" } : Jvm.MethodName) prog_4_method_14_code (5 : Nat) (Option.some Jvm.ClassFile.FieldType.int)) ∈ lw_all := lw_g (lw_at lw_m5 214 rfl) rfl
theorem q1291 : (Jvm.Cond.methodLink "GrassPark$Ground" (149 : Nat) ({ cls := "java/lang/Math", name := "abs", desc := "(I)I" } : Jvm.MethodName)) ∈ lw_all := lw_g (lw_at lw_m5 215 rfl) rfl
theorem q1294 : (Jvm.Cond.methodLink "GrassPark$Ground" (155 : Nat) ({ cls := "java/lang/Math", name := "max", desc := "(II)I" } : Jvm.MethodName)) ∈ lw_all := lw_g (lw_at lw_m5 218 rfl) rfl
theorem q1295 : (Jvm.Cond.methodLink "GrassPark$Ground" (159 : Nat) ({ cls := "java/lang/Math", name := "min", desc := "(II)I" } : Jvm.MethodName)) ∈ lw_all := lw_g (lw_at lw_m5 219 rfl) rfl
theorem q1296 : (Jvm.Cond.classLink "GrassPark$Ground" (200 : Nat) "GrassPark$Line") ∈ lw_all := lw_g (lw_at lw_m5 220 rfl) rfl
theorem q1297 : (Jvm.Cond.methodLink "GrassPark$Ground" (202 : Nat) ({ cls := "GrassPark$Line", name := "holds", desc := "(LGrassPark$Ground;LGrassPark$Law;I)Z" } : Jvm.MethodName)) ∈ lw_all := lw_g (lw_at lw_m5 221 rfl) rfl
theorem q1307 : (Jvm.Cond.instanceMethod ({ cls := "GrassPark$Ground", name := "isMuddy", desc := "(LGrassPark$Law;I)Z" } : Jvm.MethodName)) ∈ lw_all := lw_g (lw_at lw_m5 231 rfl) rfl
theorem q1308 : (Jvm.Cond.selects "GrassPark$Ground" ({ cls := "GrassPark$Ground", name := "isMuddy", desc := "(LGrassPark$Law;I)Z" } : Jvm.MethodName) ({ cls := "GrassPark$Ground", name := "isMuddy", desc := "(LGrassPark$Law;I)Z" } : Jvm.MethodName)) ∈ lw_all := lw_g (lw_at lw_m5 232 rfl) rfl
theorem q1309 : (Jvm.Cond.code ({ cls := "GrassPark$Ground", name := "isMuddy", desc := "(LGrassPark$Law;I)Z" } : Jvm.MethodName) prog_4_method_10_code (3 : Nat) (Option.some Jvm.ClassFile.FieldType.boolean)) ∈ lw_all := lw_g (lw_at lw_m5 233 rfl) rfl
theorem q1310 : (Jvm.Cond.methodLink "GrassPark$Ground" (133 : Nat) ({ cls := "GrassPark$Ground", name := "isWorn", desc := "(LGrassPark$Law;I)Z" } : Jvm.MethodName)) ∈ lw_all := lw_g (lw_at lw_m5 234 rfl) rfl
theorem q1311 : (Jvm.Cond.instanceMethod ({ cls := "GrassPark$Ground", name := "isWorn", desc := "(LGrassPark$Law;I)Z" } : Jvm.MethodName)) ∈ lw_all := lw_g (lw_at lw_m5 235 rfl) rfl
theorem q1312 : (Jvm.Cond.selects "GrassPark$Ground" ({ cls := "GrassPark$Ground", name := "isWorn", desc := "(LGrassPark$Law;I)Z" } : Jvm.MethodName) ({ cls := "GrassPark$Ground", name := "isWorn", desc := "(LGrassPark$Law;I)Z" } : Jvm.MethodName)) ∈ lw_all := lw_g (lw_at lw_m5 236 rfl) rfl
theorem q1313 : (Jvm.Cond.code ({ cls := "GrassPark$Ground", name := "isWorn", desc := "(LGrassPark$Law;I)Z" } : Jvm.MethodName) prog_4_method_9_code (3 : Nat) (Option.some Jvm.ClassFile.FieldType.boolean)) ∈ lw_all := lw_g (lw_at lw_m5 237 rfl) rfl
theorem q1319 : (Jvm.Cond.methodLink "GrassPark$Ground" (213 : Nat) ({ cls := "GrassPark$Ground", name := "measure", desc := "(ILGrassPark$Walker;IILGrassPark$Habit;LGrassPark$Law;)I" } : Jvm.MethodName)) ∈ lw_all := lw_g (lw_at lw_m6 3 rfl) rfl
theorem q1320 : (Jvm.Cond.privateMethod ({ cls := "GrassPark$Ground", name := "measure", desc := "(ILGrassPark$Walker;IILGrassPark$Habit;LGrassPark$Law;)I" } : Jvm.MethodName)) ∈ lw_tbl := lw_at lw_m6 4 rfl
theorem q1321 : (Jvm.Cond.instanceMethod ({ cls := "GrassPark$Ground", name := "measure", desc := "(ILGrassPark$Walker;IILGrassPark$Habit;LGrassPark$Law;)I" } : Jvm.MethodName)) ∈ lw_all := lw_g (lw_at lw_m6 5 rfl) rfl
theorem q1322 : (Jvm.Cond.code ({ cls := "GrassPark$Ground", name := "measure", desc := "(ILGrassPark$Walker;IILGrassPark$Habit;LGrassPark$Law;)I" } : Jvm.MethodName) prog_4_method_17_code (7 : Nat) (Option.some Jvm.ClassFile.FieldType.int)) ∈ lw_all := lw_g (lw_at lw_m6 6 rfl) rfl
theorem q1323 : (Jvm.Cond.methodLink "GrassPark$Ground" (169 : Nat) ({ cls := "GrassPark$Ground", name := "isSoft", desc := "(I)Z" } : Jvm.MethodName)) ∈ lw_all := lw_g (lw_at lw_m6 7 rfl) rfl
theorem q1324 : (Jvm.Cond.instanceMethod ({ cls := "GrassPark$Ground", name := "isSoft", desc := "(I)Z" } : Jvm.MethodName)) ∈ lw_all := lw_g (lw_at lw_m6 8 rfl) rfl
theorem q1325 : (Jvm.Cond.selects "GrassPark$Ground" ({ cls := "GrassPark$Ground", name := "isSoft", desc := "(I)Z" } : Jvm.MethodName) ({ cls := "GrassPark$Ground", name := "isSoft", desc := "(I)Z" } : Jvm.MethodName)) ∈ lw_all := lw_g (lw_at lw_m6 9 rfl) rfl
theorem q1326 : (Jvm.Cond.code ({ cls := "GrassPark$Ground", name := "isSoft", desc := "(I)Z" } : Jvm.MethodName) prog_4_method_8_code (2 : Nat) (Option.some Jvm.ClassFile.FieldType.boolean)) ∈ lw_all := lw_g (lw_at lw_m6 10 rfl) rfl
theorem q1327 : (Jvm.Cond.methodLink "GrassPark$Ground" (172 : Nat) ({ cls := "GrassPark$Ground", name := "others", desc := "(ILGrassPark$Walker;)I" } : Jvm.MethodName)) ∈ lw_all := lw_g (lw_at lw_m6 11 rfl) rfl
theorem q1328 : (Jvm.Cond.privateMethod ({ cls := "GrassPark$Ground", name := "others", desc := "(ILGrassPark$Walker;)I" } : Jvm.MethodName)) ∈ lw_tbl := lw_at lw_m6 12 rfl
theorem q1329 : (Jvm.Cond.instanceMethod ({ cls := "GrassPark$Ground", name := "others", desc := "(ILGrassPark$Walker;)I" } : Jvm.MethodName)) ∈ lw_all := lw_g (lw_at lw_m6 13 rfl) rfl
theorem q1330 : (Jvm.Cond.code ({ cls := "GrassPark$Ground", name := "others", desc := "(ILGrassPark$Walker;)I" } : Jvm.MethodName) prog_4_method_15_code (6 : Nat) (Option.some Jvm.ClassFile.FieldType.int)) ∈ lw_all := lw_g (lw_at lw_m6 14 rfl) rfl
theorem q1331 : (Jvm.Cond.methodLink "GrassPark$Ground" (187 : Nat) ({ cls := "GrassPark$Ground", name := "drawn", desc := "(IIILGrassPark$Law;)I" } : Jvm.MethodName)) ∈ lw_all := lw_g (lw_at lw_m6 15 rfl) rfl
theorem q1332 : (Jvm.Cond.privateMethod ({ cls := "GrassPark$Ground", name := "drawn", desc := "(IIILGrassPark$Law;)I" } : Jvm.MethodName)) ∈ lw_tbl := lw_at lw_m6 16 rfl
theorem q1333 : (Jvm.Cond.instanceMethod ({ cls := "GrassPark$Ground", name := "drawn", desc := "(IIILGrassPark$Law;)I" } : Jvm.MethodName)) ∈ lw_all := lw_g (lw_at lw_m6 17 rfl) rfl
theorem q1334 : (Jvm.Cond.code ({ cls := "GrassPark$Ground", name := "drawn", desc := "(IIILGrassPark$Law;)I" } : Jvm.MethodName) prog_4_method_16_code (8 : Nat) (Option.some Jvm.ClassFile.FieldType.int)) ∈ lw_all := lw_g (lw_at lw_m6 18 rfl) rfl
theorem q1335 : (Jvm.Cond.methodLink "GrassPark$Ground" (253 : Nat) ({ cls := "GrassPark$Ground", name := "mark", desc := "(ILGrassPark$Law;)V" } : Jvm.MethodName)) ∈ lw_all := lw_g (lw_at lw_m6 19 rfl) rfl
theorem q1336 : (Jvm.Cond.privateMethod ({ cls := "GrassPark$Ground", name := "mark", desc := "(ILGrassPark$Law;)V" } : Jvm.MethodName)) ∈ lw_tbl := lw_at lw_m6 20 rfl
theorem q1337 : (Jvm.Cond.instanceMethod ({ cls := "GrassPark$Ground", name := "mark", desc := "(ILGrassPark$Law;)V" } : Jvm.MethodName)) ∈ lw_all := lw_g (lw_at lw_m6 21 rfl) rfl
theorem q1338 : (Jvm.Cond.code ({ cls := "GrassPark$Ground", name := "mark", desc := "(ILGrassPark$Law;)V" } : Jvm.MethodName) prog_4_method_21_code (3 : Nat) (Option.none : Option Jvm.ClassFile.FieldType)) ∈ lw_all := lw_g (lw_at lw_m6 22 rfl) rfl
theorem q1339 : (Jvm.Cond.methodLink "GrassPark$Ground" (228 : Nat) ({ cls := "GrassPark$Law", name := "wears", desc := "(LGrassPark$Ground;I)I" } : Jvm.MethodName)) ∈ lw_all := lw_g (lw_at lw_m6 23 rfl) rfl
theorem q1348 : (Jvm.Cond.methodLink "GrassPark$Ground" (76 : Nat) ({ cls := "GrassPark$Ground", name := "retire", desc := "(I)V" } : Jvm.MethodName)) ∈ lw_all := lw_g (lw_at lw_m6 32 rfl) rfl
theorem q1349 : (Jvm.Cond.privateMethod ({ cls := "GrassPark$Ground", name := "retire", desc := "(I)V" } : Jvm.MethodName)) ∈ lw_tbl := lw_at lw_m6 33 rfl
theorem q1350 : (Jvm.Cond.instanceMethod ({ cls := "GrassPark$Ground", name := "retire", desc := "(I)V" } : Jvm.MethodName)) ∈ lw_all := lw_g (lw_at lw_m6 34 rfl) rfl
theorem q1351 : (Jvm.Cond.code ({ cls := "GrassPark$Ground", name := "retire", desc := "(I)V" } : Jvm.MethodName) prog_4_method_3_code (2 : Nat) (Option.none : Option Jvm.ClassFile.FieldType)) ∈ lw_all := lw_g (lw_at lw_m6 35 rfl) rfl
theorem q1357 : (Jvm.Cond.instanceMethod ({ cls := "GrassPark$Ground", name := "week", desc := "(LGrassPark$Law;)V" } : Jvm.MethodName)) ∈ lw_all := lw_g (lw_at lw_m6 41 rfl) rfl
theorem q1358 : (Jvm.Cond.selects "GrassPark$Ground" ({ cls := "GrassPark$Ground", name := "week", desc := "(LGrassPark$Law;)V" } : Jvm.MethodName) ({ cls := "GrassPark$Ground", name := "week", desc := "(LGrassPark$Law;)V" } : Jvm.MethodName)) ∈ lw_all := lw_g (lw_at lw_m6 42 rfl) rfl
theorem q1359 : (Jvm.Cond.code ({ cls := "GrassPark$Ground", name := "week", desc := "(LGrassPark$Law;)V" } : Jvm.MethodName) prog_4_method_23_code (3 : Nat) (Option.none : Option Jvm.ClassFile.FieldType)) ∈ lw_all := lw_g (lw_at lw_m6 43 rfl) rfl
theorem q1360 : (Jvm.Cond.methodLink "GrassPark$Ground" (257 : Nat) ({ cls := "GrassPark$Law", name := "grows", desc := "(LGrassPark$Ground;I)I" } : Jvm.MethodName)) ∈ lw_all := lw_g (lw_at lw_m6 44 rfl) rfl
theorem q1365 : (Jvm.Cond.instanceMethod ({ cls := "GrassPark$Ground", name := "net", desc := "(LGrassPark$Law;)I" } : Jvm.MethodName)) ∈ lw_all := lw_g (lw_at lw_m6 49 rfl) rfl
theorem q1366 : (Jvm.Cond.selects "GrassPark$Ground" ({ cls := "GrassPark$Ground", name := "net", desc := "(LGrassPark$Law;)I" } : Jvm.MethodName) ({ cls := "GrassPark$Ground", name := "net", desc := "(LGrassPark$Law;)I" } : Jvm.MethodName)) ∈ lw_all := lw_g (lw_at lw_m6 50 rfl) rfl
theorem q1367 : (Jvm.Cond.code ({ cls := "GrassPark$Ground", name := "net", desc := "(LGrassPark$Law;)I" } : Jvm.MethodName) prog_4_method_26_code (4 : Nat) (Option.some Jvm.ClassFile.FieldType.int)) ∈ lw_all := lw_g (lw_at lw_m6 51 rfl) rfl
theorem q1387 : (Jvm.Cond.instanceMethod ({ cls := "GrassPark$Ground", name := "isWalkedOn", desc := "(I)Z" } : Jvm.MethodName)) ∈ lw_all := lw_g (lw_at lw_m6 71 rfl) rfl
theorem q1388 : (Jvm.Cond.selects "GrassPark$Ground" ({ cls := "GrassPark$Ground", name := "isWalkedOn", desc := "(I)Z" } : Jvm.MethodName) ({ cls := "GrassPark$Ground", name := "isWalkedOn", desc := "(I)Z" } : Jvm.MethodName)) ∈ lw_all := lw_g (lw_at lw_m6 72 rfl) rfl
theorem q1389 : (Jvm.Cond.code ({ cls := "GrassPark$Ground", name := "isWalkedOn", desc := "(I)Z" } : Jvm.MethodName) prog_4_method_13_code (4 : Nat) (Option.some Jvm.ClassFile.FieldType.boolean)) ∈ lw_all := lw_g (lw_at lw_m6 73 rfl) rfl
theorem q1391 : (Jvm.Cond.instanceMethod ({ cls := "GrassPark$Ground", name := "lay", desc := "(II)V" } : Jvm.MethodName)) ∈ lw_all := lw_g (lw_at lw_m6 75 rfl) rfl
theorem q1392 : (Jvm.Cond.selects "GrassPark$Ground" ({ cls := "GrassPark$Ground", name := "lay", desc := "(II)V" } : Jvm.MethodName) ({ cls := "GrassPark$Ground", name := "lay", desc := "(II)V" } : Jvm.MethodName)) ∈ lw_all := lw_g (lw_at lw_m6 76 rfl) rfl
theorem q1393 : (Jvm.Cond.code ({ cls := "GrassPark$Ground", name := "lay", desc := "(II)V" } : Jvm.MethodName) prog_4_method_27_code (3 : Nat) (Option.none : Option Jvm.ClassFile.FieldType)) ∈ lw_all := lw_g (lw_at lw_m6 77 rfl) rfl
theorem q1417 : (Jvm.Cond.instanceMethod ({ cls := "GrassPark$Ground", name := "into", desc := "(LGrassPark$Ground;)LGrassPark$Ground;" } : Jvm.MethodName)) ∈ lw_all := lw_g (lw_at lw_m6 101 rfl) rfl
theorem q1418 : (Jvm.Cond.selects "GrassPark$Ground" ({ cls := "GrassPark$Ground", name := "into", desc := "(LGrassPark$Ground;)LGrassPark$Ground;" } : Jvm.MethodName) ({ cls := "GrassPark$Ground", name := "into", desc := "(LGrassPark$Ground;)LGrassPark$Ground;" } : Jvm.MethodName)) ∈ lw_all := lw_g (lw_at lw_m6 102 rfl) rfl
theorem q1419 : (Jvm.Cond.code ({ cls := "GrassPark$Ground", name := "into", desc := "(LGrassPark$Ground;)LGrassPark$Ground;" } : Jvm.MethodName) prog_4_method_4_code (4 : Nat) (Option.some (Jvm.ClassFile.FieldType.object "GrassPark$Ground"))) ∈ lw_all := lw_g (lw_at lw_m6 103 rfl) rfl
theorem q1420 : (Jvm.Cond.methodLink "GrassPark$Ground" (95 : Nat) ({ cls := "java/lang/System", name := "arraycopy", desc := "(Ljava/lang/Object;ILjava/lang/Object;II)V" } : Jvm.MethodName)) ∈ lw_all := lw_g (lw_at lw_m6 104 rfl) rfl
theorem q1421 : (Jvm.Cond.methodLink "GrassPark$Ground" (106 : Nat) ({ cls := "GrassPark$Wish", name := "set", desc := "(LGrassPark$Wish;)V" } : Jvm.MethodName)) ∈ lw_all := lw_g (lw_at lw_m6 105 rfl) rfl
theorem q1425 : (Jvm.Cond.methodLink "GrassPark$Ground" (110 : Nat) ({ cls := "GrassPark$Wish", name := "copy", desc := "()LGrassPark$Wish;" } : Jvm.MethodName)) ∈ lw_all := lw_g (lw_at lw_m6 109 rfl) rfl
theorem q1431 : (Jvm.Cond.methodLink "GrassPark$Ground" (118 : Nat) ({ cls := "GrassPark$Walker", name := "set", desc := "(LGrassPark$Walker;)V" } : Jvm.MethodName)) ∈ lw_all := lw_g (lw_at lw_m6 115 rfl) rfl
theorem q1441 : (Jvm.Cond.instanceMethod ({ cls := "GrassPark$Ground", name := "goWeek", desc := "(ILGrassPark$Law;[LGrassPark$Habit;)V" } : Jvm.MethodName)) ∈ lw_all := lw_g (lw_at lw_m6 125 rfl) rfl
theorem q1442 : (Jvm.Cond.selects "GrassPark$Ground" ({ cls := "GrassPark$Ground", name := "goWeek", desc := "(ILGrassPark$Law;[LGrassPark$Habit;)V" } : Jvm.MethodName) ({ cls := "GrassPark$Ground", name := "goWeek", desc := "(ILGrassPark$Law;[LGrassPark$Habit;)V" } : Jvm.MethodName)) ∈ lw_all := lw_g (lw_at lw_m6 126 rfl) rfl
theorem q1443 : (Jvm.Cond.code ({ cls := "GrassPark$Ground", name := "goWeek", desc := "(ILGrassPark$Law;[LGrassPark$Habit;)V" } : Jvm.MethodName) prog_4_method_25_code (4 : Nat) (Option.none : Option Jvm.ClassFile.FieldType)) ∈ lw_all := lw_g (lw_at lw_m6 127 rfl) rfl
theorem q1444 : (Jvm.Cond.methodLink "GrassPark$Ground" (266 : Nat) ({ cls := "GrassPark$Ground", name := "go", desc := "(ILGrassPark$Law;[LGrassPark$Habit;)V" } : Jvm.MethodName)) ∈ lw_all := lw_g (lw_at lw_m6 128 rfl) rfl
theorem q1445 : (Jvm.Cond.methodLink "GrassPark$Ground" (270 : Nat) ({ cls := "GrassPark$Ground", name := "week", desc := "(LGrassPark$Law;)V" } : Jvm.MethodName)) ∈ lw_all := lw_g (lw_at lw_m6 129 rfl) rfl
theorem q2284 : (Jvm.Cond.castable "GrassPark$Ground" "java/lang/Object") ∈ lw_tbl := lw_at lw_m10 8 rfl
theorem in_X2 : ∀ w ∈ wsX20, w ∈ lw_all := lw_in wsX20 [237, 239, 241, 243, 245, 247, 249, 251, 253, 255, 257, 259, 261, 263, 265, 267, 269, 271] (by decide +kernel) (by decide +kernel)
/-! GrassPark$Law -/
set_option maxRecDepth 100000
def RX3 : String := "GrassPark$Law"
def TX3 : u_T := fun k => match k with
  | 0 => ("GrassPark$Law", "lines", "Ljava/util/ArrayList;", true)
  | 1 => ("GrassPark$Law", "line", "I", false)
  | 2 => ("GrassPark$Law", "mud", "I", false)
  | _ => ("GrassPark$Law", "dry", "I", false)
def tyX3 : Nat → FieldType := fun k => match k with
  | 0 => .object "java/util/ArrayList"
  | 1 => .int
  | 2 => .int
  | _ => .int
abbrev wsX30 : List Cond := u_ws RX3 TX3 4
theorem nmX3 : ∀ a, a < 4 → ∀ b, b < 4 → a ≠ b → (TX3 a).2.1 ≠ (TX3 b).2.1 := by decide +kernel
theorem tyX3_ok : ∀ k, k < 4 → parseFieldDescriptor (TX3 k).2.2.1 = some (tyX3 k) := by decide +kernel
abbrev cX3_init : ByteArray := prog_6_method_1_code
def yX3_init : MethodName := ⟨RX3, "<init>", "()V"⟩
def dkwX3_init_1 : List UInt8 := [181, 0, 22, 42, 16, 10, 181, 0, 25, 177]
abbrev dktX3_init_1 : List UInt8 := dkwX3_init_1 ++ []
def dkwX3_init_0 : List UInt8 := [42, 183, 0, 3, 42, 187, 0, 9, 89, 183, 0, 11, 181, 0, 12, 42, 16, 40, 181, 0, 18, 42, 16, 50]
abbrev dktX3_init_0 : List UInt8 := dkwX3_init_0 ++ dktX3_init_1
theorem dksX3_init_0 : cX3_init.data.toList.drop 0 = dktX3_init_0 := by decide +kernel
theorem dksX3_init_1 : cX3_init.data.toList.drop 24 = dktX3_init_1 := dk_seg dksX3_init_0 24 rfl rfl
theorem dX3_init_0 : decode cX3_init 0 = .ok (.aload_n 0, 1) := dk_42 (dk_at dksX3_init_0 0 rfl rfl)
theorem dX3_init_1 : decode cX3_init 1 = .ok (.invokespecial 3, 3) := dk_183 0 3 (dk_at dksX3_init_0 1 rfl rfl)
theorem dX3_init_4 : decode cX3_init 4 = .ok (.aload_n 0, 1) := dk_42 (dk_at dksX3_init_0 4 rfl rfl)
theorem dX3_init_5 : decode cX3_init 5 = .ok (.new 9, 3) := dk_187 0 9 (dk_at dksX3_init_0 5 rfl rfl)
theorem dX3_init_8 : decode cX3_init 8 = .ok (.dup, 1) := dk_89 (dk_at dksX3_init_0 8 rfl rfl)
theorem dX3_init_9 : decode cX3_init 9 = .ok (.invokespecial 11, 3) := dk_183 0 11 (dk_at dksX3_init_0 9 rfl rfl)
theorem dX3_init_12 : decode cX3_init 12 = .ok (.putfield 12, 3) := dk_181 0 12 (dk_at dksX3_init_0 12 rfl rfl)
theorem dX3_init_15 : decode cX3_init 15 = .ok (.aload_n 0, 1) := dk_42 (dk_at dksX3_init_0 15 rfl rfl)
theorem dX3_init_16 : decode cX3_init 16 = .ok (.bipush 40, 2) := dk_16 40 (dk_at dksX3_init_0 16 rfl rfl)
theorem dX3_init_18 : decode cX3_init 18 = .ok (.putfield 18, 3) := dk_181 0 18 (dk_at dksX3_init_0 18 rfl rfl)
theorem dX3_init_21 : decode cX3_init 21 = .ok (.aload_n 0, 1) := dk_42 (dk_at dksX3_init_0 21 rfl rfl)
theorem dX3_init_22 : decode cX3_init 22 = .ok (.bipush 50, 2) := dk_16 50 (dk_at dksX3_init_0 22 rfl rfl)
theorem dX3_init_24 : decode cX3_init 24 = .ok (.putfield 22, 3) := dk_181 0 22 (dk_at dksX3_init_1 0 rfl rfl)
theorem dX3_init_27 : decode cX3_init 27 = .ok (.aload_n 0, 1) := dk_42 (dk_at dksX3_init_1 3 rfl rfl)
theorem dX3_init_28 : decode cX3_init 28 = .ok (.bipush 10, 2) := dk_16 10 (dk_at dksX3_init_1 4 rfl rfl)
theorem dX3_init_30 : decode cX3_init 30 = .ok (.putfield 25, 3) := dk_181 0 25 (dk_at dksX3_init_1 6 rfl rfl)
theorem dX3_init_33 : decode cX3_init 33 = .ok (.return_, 1) := dk_177 (dk_at dksX3_init_1 9 rfl rfl)
abbrev cX3_wears : ByteArray := prog_6_method_2_code
def yX3_wears : MethodName := ⟨RX3, "wears", "(LGrassPark$Ground;I)I"⟩
def dkwX3_wears_0 : List UInt8 := [42, 180, 0, 12, 3, 8, 43, 42, 28, 184, 0, 28, 172]
abbrev dktX3_wears_0 : List UInt8 := dkwX3_wears_0 ++ []
theorem dksX3_wears_0 : cX3_wears.data.toList.drop 0 = dktX3_wears_0 := by decide +kernel
theorem dX3_wears_0 : decode cX3_wears 0 = .ok (.aload_n 0, 1) := dk_42 (dk_at dksX3_wears_0 0 rfl rfl)
theorem dX3_wears_1 : decode cX3_wears 1 = .ok (.getfield 12, 3) := dk_180 0 12 (dk_at dksX3_wears_0 1 rfl rfl)
theorem dX3_wears_4 : decode cX3_wears 4 = .ok (.iconst 0, 1) := dk_3 (dk_at dksX3_wears_0 4 rfl rfl)
theorem dX3_wears_5 : decode cX3_wears 5 = .ok (.iconst 5, 1) := dk_8 (dk_at dksX3_wears_0 5 rfl rfl)
theorem dX3_wears_6 : decode cX3_wears 6 = .ok (.aload_n 1, 1) := dk_43 (dk_at dksX3_wears_0 6 rfl rfl)
theorem dX3_wears_7 : decode cX3_wears 7 = .ok (.aload_n 0, 1) := dk_42 (dk_at dksX3_wears_0 7 rfl rfl)
theorem dX3_wears_8 : decode cX3_wears 8 = .ok (.iload_n 2, 1) := dk_28 (dk_at dksX3_wears_0 8 rfl rfl)
theorem dX3_wears_9 : decode cX3_wears 9 = .ok (.invokestatic 28, 3) := dk_184 0 28 (dk_at dksX3_wears_0 9 rfl rfl)
theorem dX3_wears_12 : decode cX3_wears 12 = .ok (.ireturn, 1) := dk_172 (dk_at dksX3_wears_0 12 rfl rfl)
abbrev cX3_grows : ByteArray := prog_6_method_3_code
def yX3_grows : MethodName := ⟨RX3, "grows", "(LGrassPark$Ground;I)I"⟩
def dkwX3_grows_0 : List UInt8 := [42, 180, 0, 12, 4, 16, 10, 43, 42, 28, 184, 0, 28, 172]
abbrev dktX3_grows_0 : List UInt8 := dkwX3_grows_0 ++ []
theorem dksX3_grows_0 : cX3_grows.data.toList.drop 0 = dktX3_grows_0 := by decide +kernel
theorem dX3_grows_0 : decode cX3_grows 0 = .ok (.aload_n 0, 1) := dk_42 (dk_at dksX3_grows_0 0 rfl rfl)
theorem dX3_grows_1 : decode cX3_grows 1 = .ok (.getfield 12, 3) := dk_180 0 12 (dk_at dksX3_grows_0 1 rfl rfl)
theorem dX3_grows_4 : decode cX3_grows 4 = .ok (.iconst 1, 1) := dk_4 (dk_at dksX3_grows_0 4 rfl rfl)
theorem dX3_grows_5 : decode cX3_grows 5 = .ok (.bipush 10, 2) := dk_16 10 (dk_at dksX3_grows_0 5 rfl rfl)
theorem dX3_grows_7 : decode cX3_grows 7 = .ok (.aload_n 1, 1) := dk_43 (dk_at dksX3_grows_0 7 rfl rfl)
theorem dX3_grows_8 : decode cX3_grows 8 = .ok (.aload_n 0, 1) := dk_42 (dk_at dksX3_grows_0 8 rfl rfl)
theorem dX3_grows_9 : decode cX3_grows 9 = .ok (.iload_n 2, 1) := dk_28 (dk_at dksX3_grows_0 9 rfl rfl)
theorem dX3_grows_10 : decode cX3_grows 10 = .ok (.invokestatic 28, 3) := dk_184 0 28 (dk_at dksX3_grows_0 10 rfl rfl)
theorem dX3_grows_13 : decode cX3_grows 13 = .ok (.ireturn, 1) := dk_172 (dk_at dksX3_grows_0 13 rfl rfl)
theorem q122 : (Jvm.Cond.initialized "GrassPark$Law") ∈ lw_all := lw_g (lw_at lw_m1 6 rfl) rfl
theorem q275 : (Jvm.Cond.instantiable "GrassPark$Law" (4 : Nat)) ∈ lw_all := lw_g (lw_at lw_m1 159 rfl) rfl
theorem q277 : (Jvm.Cond.instanceMethod ({ cls := "GrassPark$Law", name := "<init>", desc := "()V" } : Jvm.MethodName)) ∈ lw_all := lw_g (lw_at lw_m1 161 rfl) rfl
theorem q278 : (Jvm.Cond.code ({ cls := "GrassPark$Law", name := "<init>", desc := "()V" } : Jvm.MethodName) prog_6_method_1_code (1 : Nat) (Option.none : Option Jvm.ClassFile.FieldType)) ∈ lw_all := lw_g (lw_at lw_m1 162 rfl) rfl
theorem q279 : (Jvm.Cond.methodLink "GrassPark$Law" (3 : Nat) ({ cls := "java/lang/Object", name := "<init>", desc := "()V" } : Jvm.MethodName)) ∈ lw_all := lw_g (lw_at lw_m1 163 rfl) rfl
theorem q280 : (Jvm.Cond.classLink "GrassPark$Law" (9 : Nat) "java/util/ArrayList") ∈ lw_all := lw_g (lw_at lw_m1 164 rfl) rfl
theorem q281 : (Jvm.Cond.methodLink "GrassPark$Law" (11 : Nat) ({ cls := "java/util/ArrayList", name := "<init>", desc := "()V" } : Jvm.MethodName)) ∈ lw_all := lw_g (lw_at lw_m1 165 rfl) rfl
theorem q282 : (Jvm.Cond.fieldLink "GrassPark$Law" (12 : Nat) "GrassPark$Law" "lines" "Ljava/util/ArrayList;") ∈ lw_all := lw_g (lw_at lw_m1 166 rfl) rfl
theorem q284 : (Jvm.Cond.fieldLink "GrassPark$Law" (18 : Nat) "GrassPark$Law" "line" "I") ∈ lw_all := lw_g (lw_at lw_m1 168 rfl) rfl
theorem q287 : (Jvm.Cond.fieldLink "GrassPark$Law" (22 : Nat) "GrassPark$Law" "mud" "I") ∈ lw_all := lw_g (lw_at lw_m1 171 rfl) rfl
theorem q290 : (Jvm.Cond.fieldLink "GrassPark$Law" (25 : Nat) "GrassPark$Law" "dry" "I") ∈ lw_all := lw_g (lw_at lw_m1 174 rfl) rfl
theorem q293 : (Jvm.Cond.laysFinal "GrassPark$Law" "GrassPark$Law" "lines" "Ljava/util/ArrayList;") ∈ lw_all := lw_g (lw_at lw_m1 177 rfl) rfl
theorem q294 : (Jvm.Cond.soleField "GrassPark$Law" "lines") ∈ lw_all := lw_g (lw_at lw_m1 178 rfl) rfl
theorem q295 : (Jvm.Cond.lays "GrassPark$Law" "GrassPark$Law" "line" "I") ∈ lw_all := lw_g (lw_at lw_m1 179 rfl) rfl
theorem q296 : (Jvm.Cond.soleField "GrassPark$Law" "line") ∈ lw_all := lw_g (lw_at lw_m1 180 rfl) rfl
theorem q297 : (Jvm.Cond.lays "GrassPark$Law" "GrassPark$Law" "mud" "I") ∈ lw_all := lw_g (lw_at lw_m1 181 rfl) rfl
theorem q298 : (Jvm.Cond.soleField "GrassPark$Law" "mud") ∈ lw_all := lw_g (lw_at lw_m1 182 rfl) rfl
theorem q299 : (Jvm.Cond.lays "GrassPark$Law" "GrassPark$Law" "dry" "I") ∈ lw_all := lw_g (lw_at lw_m1 183 rfl) rfl
theorem q300 : (Jvm.Cond.soleField "GrassPark$Law" "dry") ∈ lw_all := lw_g (lw_at lw_m1 184 rfl) rfl
theorem q301 : (Jvm.Cond.superclass "GrassPark$Law" "java/lang/Object") ∈ lw_all := lw_g (lw_at lw_m1 185 rfl) rfl
theorem q1074 : (Jvm.Cond.selects "GrassPark$Law" ({ cls := "java/lang/Object", name := "getClass", desc := "()Ljava/lang/Class;" } : Jvm.MethodName) ({ cls := "java/lang/Object", name := "getClass", desc := "()Ljava/lang/Class;" } : Jvm.MethodName)) ∈ lw_all := lw_g (lw_at lw_m4 238 rfl) rfl
theorem q1340 : (Jvm.Cond.instanceMethod ({ cls := "GrassPark$Law", name := "wears", desc := "(LGrassPark$Ground;I)I" } : Jvm.MethodName)) ∈ lw_all := lw_g (lw_at lw_m6 24 rfl) rfl
theorem q1341 : (Jvm.Cond.selects "GrassPark$Law" ({ cls := "GrassPark$Law", name := "wears", desc := "(LGrassPark$Ground;I)I" } : Jvm.MethodName) ({ cls := "GrassPark$Law", name := "wears", desc := "(LGrassPark$Ground;I)I" } : Jvm.MethodName)) ∈ lw_all := lw_g (lw_at lw_m6 25 rfl) rfl
theorem q1342 : (Jvm.Cond.code ({ cls := "GrassPark$Law", name := "wears", desc := "(LGrassPark$Ground;I)I" } : Jvm.MethodName) prog_6_method_2_code (3 : Nat) (Option.some Jvm.ClassFile.FieldType.int)) ∈ lw_all := lw_g (lw_at lw_m6 26 rfl) rfl
theorem q1343 : (Jvm.Cond.methodLinkNest "GrassPark$Law" (28 : Nat) ({ cls := "GrassPark", name := "firstOf", desc := "(Ljava/util/ArrayList;IILGrassPark$Ground;LGrassPark$Law;I)I" } : Jvm.MethodName) "GrassPark") ∈ lw_tbl := lw_at lw_m6 27 rfl
theorem q1361 : (Jvm.Cond.instanceMethod ({ cls := "GrassPark$Law", name := "grows", desc := "(LGrassPark$Ground;I)I" } : Jvm.MethodName)) ∈ lw_all := lw_g (lw_at lw_m6 45 rfl) rfl
theorem q1362 : (Jvm.Cond.selects "GrassPark$Law" ({ cls := "GrassPark$Law", name := "grows", desc := "(LGrassPark$Ground;I)I" } : Jvm.MethodName) ({ cls := "GrassPark$Law", name := "grows", desc := "(LGrassPark$Ground;I)I" } : Jvm.MethodName)) ∈ lw_all := lw_g (lw_at lw_m6 46 rfl) rfl
theorem q1363 : (Jvm.Cond.code ({ cls := "GrassPark$Law", name := "grows", desc := "(LGrassPark$Ground;I)I" } : Jvm.MethodName) prog_6_method_3_code (3 : Nat) (Option.some Jvm.ClassFile.FieldType.int)) ∈ lw_all := lw_g (lw_at lw_m6 47 rfl) rfl
theorem q2287 : (Jvm.Cond.castable "GrassPark$Law" "java/lang/Object") ∈ lw_tbl := lw_at lw_m10 11 rfl
theorem in_X3 : ∀ w ∈ wsX30, w ∈ lw_all := lw_in wsX30 [293, 295, 297, 299] (by decide +kernel) (by decide +kernel)
/-! GrassPark$Habit -/
set_option maxRecDepth 100000
def RX4 : String := "GrassPark$Habit"
def TX4 : u_T := fun k => match k with
  | 0 => ("GrassPark$Habit", "lines", "Ljava/util/ArrayList;", true)
  | _ => ("GrassPark$Habit", "sight", "I", false)
def tyX4 : Nat → FieldType := fun k => match k with
  | 0 => .object "java/util/ArrayList"
  | _ => .int
abbrev wsX40 : List Cond := u_ws RX4 TX4 2
theorem nmX4 : ∀ a, a < 2 → ∀ b, b < 2 → a ≠ b → (TX4 a).2.1 ≠ (TX4 b).2.1 := by decide +kernel
theorem tyX4_ok : ∀ k, k < 2 → parseFieldDescriptor (TX4 k).2.2.1 = some (tyX4 k) := by decide +kernel
abbrev cX4_init : ByteArray := prog_5_method_1_code
def yX4_init : MethodName := ⟨RX4, "<init>", "()V"⟩
def dkwX4_init_0 : List UInt8 := [42, 183, 0, 3, 42, 187, 0, 9, 89, 183, 0, 11, 181, 0, 12, 42, 6, 181, 0, 18, 177]
abbrev dktX4_init_0 : List UInt8 := dkwX4_init_0 ++ []
theorem dksX4_init_0 : cX4_init.data.toList.drop 0 = dktX4_init_0 := by decide +kernel
theorem dX4_init_0 : decode cX4_init 0 = .ok (.aload_n 0, 1) := dk_42 (dk_at dksX4_init_0 0 rfl rfl)
theorem dX4_init_1 : decode cX4_init 1 = .ok (.invokespecial 3, 3) := dk_183 0 3 (dk_at dksX4_init_0 1 rfl rfl)
theorem dX4_init_4 : decode cX4_init 4 = .ok (.aload_n 0, 1) := dk_42 (dk_at dksX4_init_0 4 rfl rfl)
theorem dX4_init_5 : decode cX4_init 5 = .ok (.new 9, 3) := dk_187 0 9 (dk_at dksX4_init_0 5 rfl rfl)
theorem dX4_init_8 : decode cX4_init 8 = .ok (.dup, 1) := dk_89 (dk_at dksX4_init_0 8 rfl rfl)
theorem dX4_init_9 : decode cX4_init 9 = .ok (.invokespecial 11, 3) := dk_183 0 11 (dk_at dksX4_init_0 9 rfl rfl)
theorem dX4_init_12 : decode cX4_init 12 = .ok (.putfield 12, 3) := dk_181 0 12 (dk_at dksX4_init_0 12 rfl rfl)
theorem dX4_init_15 : decode cX4_init 15 = .ok (.aload_n 0, 1) := dk_42 (dk_at dksX4_init_0 15 rfl rfl)
theorem dX4_init_16 : decode cX4_init 16 = .ok (.iconst 3, 1) := dk_6 (dk_at dksX4_init_0 16 rfl rfl)
theorem dX4_init_17 : decode cX4_init 17 = .ok (.putfield 18, 3) := dk_181 0 18 (dk_at dksX4_init_0 17 rfl rfl)
theorem dX4_init_20 : decode cX4_init 20 = .ok (.return_, 1) := dk_177 (dk_at dksX4_init_0 20 rfl rfl)
abbrev cX4_drawnBy : ByteArray := prog_5_method_2_code
def yX4_drawnBy : MethodName := ⟨RX4, "drawnBy", "(I)LGrassPark$Habit;"⟩
def dkwX4_drawnBy_5 : List UInt8 := [132, 4, 1, 167, 255, 158, 29, 153, 0, 7, 44, 167, 0, 4, 1, 176]
abbrev dktX4_drawnBy_5 : List UInt8 := dkwX4_drawnBy_5 ++ []
def dkwX4_drawnBy_4 : List UInt8 := [167, 0, 5, 25, 5, 182, 0, 43, 87, 29, 154, 0, 8, 21, 6, 153, 0, 7, 4, 167, 0, 4, 3, 62]
abbrev dktX4_drawnBy_4 : List UInt8 := dkwX4_drawnBy_4 ++ dktX4_drawnBy_5
def dkwX4_drawnBy_3 : List UInt8 := [180, 0, 12, 21, 6, 153, 0, 21, 187, 0, 31, 89, 16, 6, 27, 25, 5, 180, 0, 36, 183, 0, 40]
abbrev dktX4_drawnBy_3 : List UInt8 := dkwX4_drawnBy_3 ++ dktX4_drawnBy_4
def dkwX4_drawnBy_2 : List UInt8 := [25, 5, 180, 0, 33, 16, 6, 160, 0, 11, 29, 154, 0, 7, 4, 167, 0, 4, 3, 54, 6, 44]
abbrev dktX4_drawnBy_2 : List UInt8 := dkwX4_drawnBy_2 ++ dktX4_drawnBy_3
def dkwX4_drawnBy_1 : List UInt8 := [180, 0, 12, 182, 0, 23, 162, 0, 92, 42, 180, 0, 12, 21, 4, 182, 0, 27, 192, 0, 31, 58, 5]
abbrev dktX4_drawnBy_1 : List UInt8 := dkwX4_drawnBy_1 ++ dktX4_drawnBy_2
def dkwX4_drawnBy_0 : List UInt8 := [187, 0, 13, 89, 183, 0, 22, 77, 44, 42, 180, 0, 18, 181, 0, 18, 3, 62, 3, 54, 4, 21, 4, 42]
abbrev dktX4_drawnBy_0 : List UInt8 := dkwX4_drawnBy_0 ++ dktX4_drawnBy_1
theorem dksX4_drawnBy_0 : cX4_drawnBy.data.toList.drop 0 = dktX4_drawnBy_0 := by decide +kernel
theorem dksX4_drawnBy_1 : cX4_drawnBy.data.toList.drop 24 = dktX4_drawnBy_1 := dk_seg dksX4_drawnBy_0 24 rfl rfl
theorem dksX4_drawnBy_2 : cX4_drawnBy.data.toList.drop 47 = dktX4_drawnBy_2 := dk_seg dksX4_drawnBy_1 23 rfl rfl
theorem dksX4_drawnBy_3 : cX4_drawnBy.data.toList.drop 69 = dktX4_drawnBy_3 := dk_seg dksX4_drawnBy_2 22 rfl rfl
theorem dksX4_drawnBy_4 : cX4_drawnBy.data.toList.drop 92 = dktX4_drawnBy_4 := dk_seg dksX4_drawnBy_3 23 rfl rfl
theorem dksX4_drawnBy_5 : cX4_drawnBy.data.toList.drop 116 = dktX4_drawnBy_5 := dk_seg dksX4_drawnBy_4 24 rfl rfl
theorem dX4_drawnBy_0 : decode cX4_drawnBy 0 = .ok (.new 13, 3) := dk_187 0 13 (dk_at dksX4_drawnBy_0 0 rfl rfl)
theorem dX4_drawnBy_3 : decode cX4_drawnBy 3 = .ok (.dup, 1) := dk_89 (dk_at dksX4_drawnBy_0 3 rfl rfl)
theorem dX4_drawnBy_4 : decode cX4_drawnBy 4 = .ok (.invokespecial 22, 3) := dk_183 0 22 (dk_at dksX4_drawnBy_0 4 rfl rfl)
theorem dX4_drawnBy_7 : decode cX4_drawnBy 7 = .ok (.astore_n 2, 1) := dk_77 (dk_at dksX4_drawnBy_0 7 rfl rfl)
theorem dX4_drawnBy_8 : decode cX4_drawnBy 8 = .ok (.aload_n 2, 1) := dk_44 (dk_at dksX4_drawnBy_0 8 rfl rfl)
theorem dX4_drawnBy_9 : decode cX4_drawnBy 9 = .ok (.aload_n 0, 1) := dk_42 (dk_at dksX4_drawnBy_0 9 rfl rfl)
theorem dX4_drawnBy_10 : decode cX4_drawnBy 10 = .ok (.getfield 18, 3) := dk_180 0 18 (dk_at dksX4_drawnBy_0 10 rfl rfl)
theorem dX4_drawnBy_13 : decode cX4_drawnBy 13 = .ok (.putfield 18, 3) := dk_181 0 18 (dk_at dksX4_drawnBy_0 13 rfl rfl)
theorem dX4_drawnBy_16 : decode cX4_drawnBy 16 = .ok (.iconst 0, 1) := dk_3 (dk_at dksX4_drawnBy_0 16 rfl rfl)
theorem dX4_drawnBy_17 : decode cX4_drawnBy 17 = .ok (.istore_n 3, 1) := dk_62 (dk_at dksX4_drawnBy_0 17 rfl rfl)
theorem dX4_drawnBy_18 : decode cX4_drawnBy 18 = .ok (.iconst 0, 1) := dk_3 (dk_at dksX4_drawnBy_0 18 rfl rfl)
theorem dX4_drawnBy_19 : decode cX4_drawnBy 19 = .ok (.istore 4, 2) := dk_54 4 (dk_at dksX4_drawnBy_0 19 rfl rfl)
theorem dX4_drawnBy_21 : decode cX4_drawnBy 21 = .ok (.iload 4, 2) := dk_21 4 (dk_at dksX4_drawnBy_0 21 rfl rfl)
theorem dX4_drawnBy_23 : decode cX4_drawnBy 23 = .ok (.aload_n 0, 1) := dk_42 (dk_at dksX4_drawnBy_0 23 rfl rfl)
theorem dX4_drawnBy_24 : decode cX4_drawnBy 24 = .ok (.getfield 12, 3) := dk_180 0 12 (dk_at dksX4_drawnBy_1 0 rfl rfl)
theorem dX4_drawnBy_27 : decode cX4_drawnBy 27 = .ok (.invokevirtual 23, 3) := dk_182 0 23 (dk_at dksX4_drawnBy_1 3 rfl rfl)
theorem dX4_drawnBy_30 : decode cX4_drawnBy 30 = .ok (.if_icmp .ge 92, 3) := dk_162 0 92 (dk_at dksX4_drawnBy_1 6 rfl rfl)
theorem dX4_drawnBy_33 : decode cX4_drawnBy 33 = .ok (.aload_n 0, 1) := dk_42 (dk_at dksX4_drawnBy_1 9 rfl rfl)
theorem dX4_drawnBy_34 : decode cX4_drawnBy 34 = .ok (.getfield 12, 3) := dk_180 0 12 (dk_at dksX4_drawnBy_1 10 rfl rfl)
theorem dX4_drawnBy_37 : decode cX4_drawnBy 37 = .ok (.iload 4, 2) := dk_21 4 (dk_at dksX4_drawnBy_1 13 rfl rfl)
theorem dX4_drawnBy_39 : decode cX4_drawnBy 39 = .ok (.invokevirtual 27, 3) := dk_182 0 27 (dk_at dksX4_drawnBy_1 15 rfl rfl)
theorem dX4_drawnBy_42 : decode cX4_drawnBy 42 = .ok (.checkcast 31, 3) := dk_192 0 31 (dk_at dksX4_drawnBy_1 18 rfl rfl)
theorem dX4_drawnBy_45 : decode cX4_drawnBy 45 = .ok (.astore 5, 2) := dk_58 5 (dk_at dksX4_drawnBy_1 21 rfl rfl)
theorem dX4_drawnBy_47 : decode cX4_drawnBy 47 = .ok (.aload 5, 2) := dk_25 5 (dk_at dksX4_drawnBy_2 0 rfl rfl)
theorem dX4_drawnBy_49 : decode cX4_drawnBy 49 = .ok (.getfield 33, 3) := dk_180 0 33 (dk_at dksX4_drawnBy_2 2 rfl rfl)
theorem dX4_drawnBy_52 : decode cX4_drawnBy 52 = .ok (.bipush 6, 2) := dk_16 6 (dk_at dksX4_drawnBy_2 5 rfl rfl)
theorem dX4_drawnBy_54 : decode cX4_drawnBy 54 = .ok (.if_icmp .ne 11, 3) := dk_160 0 11 (dk_at dksX4_drawnBy_2 7 rfl rfl)
theorem dX4_drawnBy_57 : decode cX4_drawnBy 57 = .ok (.iload_n 3, 1) := dk_29 (dk_at dksX4_drawnBy_2 10 rfl rfl)
theorem dX4_drawnBy_58 : decode cX4_drawnBy 58 = .ok (.ifCond .ne 7, 3) := dk_154 0 7 (dk_at dksX4_drawnBy_2 11 rfl rfl)
theorem dX4_drawnBy_61 : decode cX4_drawnBy 61 = .ok (.iconst 1, 1) := dk_4 (dk_at dksX4_drawnBy_2 14 rfl rfl)
theorem dX4_drawnBy_62 : decode cX4_drawnBy 62 = .ok (.goto 4, 3) := dk_167 0 4 (dk_at dksX4_drawnBy_2 15 rfl rfl)
theorem dX4_drawnBy_65 : decode cX4_drawnBy 65 = .ok (.iconst 0, 1) := dk_3 (dk_at dksX4_drawnBy_2 18 rfl rfl)
theorem dX4_drawnBy_66 : decode cX4_drawnBy 66 = .ok (.istore 6, 2) := dk_54 6 (dk_at dksX4_drawnBy_2 19 rfl rfl)
theorem dX4_drawnBy_68 : decode cX4_drawnBy 68 = .ok (.aload_n 2, 1) := dk_44 (dk_at dksX4_drawnBy_2 21 rfl rfl)
theorem dX4_drawnBy_69 : decode cX4_drawnBy 69 = .ok (.getfield 12, 3) := dk_180 0 12 (dk_at dksX4_drawnBy_3 0 rfl rfl)
theorem dX4_drawnBy_72 : decode cX4_drawnBy 72 = .ok (.iload 6, 2) := dk_21 6 (dk_at dksX4_drawnBy_3 3 rfl rfl)
theorem dX4_drawnBy_74 : decode cX4_drawnBy 74 = .ok (.ifCond .eq 21, 3) := dk_153 0 21 (dk_at dksX4_drawnBy_3 5 rfl rfl)
theorem dX4_drawnBy_77 : decode cX4_drawnBy 77 = .ok (.new 31, 3) := dk_187 0 31 (dk_at dksX4_drawnBy_3 8 rfl rfl)
theorem dX4_drawnBy_80 : decode cX4_drawnBy 80 = .ok (.dup, 1) := dk_89 (dk_at dksX4_drawnBy_3 11 rfl rfl)
theorem dX4_drawnBy_81 : decode cX4_drawnBy 81 = .ok (.bipush 6, 2) := dk_16 6 (dk_at dksX4_drawnBy_3 12 rfl rfl)
theorem dX4_drawnBy_83 : decode cX4_drawnBy 83 = .ok (.iload_n 1, 1) := dk_27 (dk_at dksX4_drawnBy_3 14 rfl rfl)
theorem dX4_drawnBy_84 : decode cX4_drawnBy 84 = .ok (.aload 5, 2) := dk_25 5 (dk_at dksX4_drawnBy_3 15 rfl rfl)
theorem dX4_drawnBy_86 : decode cX4_drawnBy 86 = .ok (.getfield 36, 3) := dk_180 0 36 (dk_at dksX4_drawnBy_3 17 rfl rfl)
theorem dX4_drawnBy_89 : decode cX4_drawnBy 89 = .ok (.invokespecial 40, 3) := dk_183 0 40 (dk_at dksX4_drawnBy_3 20 rfl rfl)
theorem dX4_drawnBy_92 : decode cX4_drawnBy 92 = .ok (.goto 5, 3) := dk_167 0 5 (dk_at dksX4_drawnBy_4 0 rfl rfl)
theorem dX4_drawnBy_95 : decode cX4_drawnBy 95 = .ok (.aload 5, 2) := dk_25 5 (dk_at dksX4_drawnBy_4 3 rfl rfl)
theorem dX4_drawnBy_97 : decode cX4_drawnBy 97 = .ok (.invokevirtual 43, 3) := dk_182 0 43 (dk_at dksX4_drawnBy_4 5 rfl rfl)
theorem dX4_drawnBy_100 : decode cX4_drawnBy 100 = .ok (.pop, 1) := dk_87 (dk_at dksX4_drawnBy_4 8 rfl rfl)
theorem dX4_drawnBy_101 : decode cX4_drawnBy 101 = .ok (.iload_n 3, 1) := dk_29 (dk_at dksX4_drawnBy_4 9 rfl rfl)
theorem dX4_drawnBy_102 : decode cX4_drawnBy 102 = .ok (.ifCond .ne 8, 3) := dk_154 0 8 (dk_at dksX4_drawnBy_4 10 rfl rfl)
theorem dX4_drawnBy_105 : decode cX4_drawnBy 105 = .ok (.iload 6, 2) := dk_21 6 (dk_at dksX4_drawnBy_4 13 rfl rfl)
theorem dX4_drawnBy_107 : decode cX4_drawnBy 107 = .ok (.ifCond .eq 7, 3) := dk_153 0 7 (dk_at dksX4_drawnBy_4 15 rfl rfl)
theorem dX4_drawnBy_110 : decode cX4_drawnBy 110 = .ok (.iconst 1, 1) := dk_4 (dk_at dksX4_drawnBy_4 18 rfl rfl)
theorem dX4_drawnBy_111 : decode cX4_drawnBy 111 = .ok (.goto 4, 3) := dk_167 0 4 (dk_at dksX4_drawnBy_4 19 rfl rfl)
theorem dX4_drawnBy_114 : decode cX4_drawnBy 114 = .ok (.iconst 0, 1) := dk_3 (dk_at dksX4_drawnBy_4 22 rfl rfl)
theorem dX4_drawnBy_115 : decode cX4_drawnBy 115 = .ok (.istore_n 3, 1) := dk_62 (dk_at dksX4_drawnBy_4 23 rfl rfl)
theorem dX4_drawnBy_116 : decode cX4_drawnBy 116 = .ok (.iinc 4 1, 3) := dk_132 4 1 (dk_at dksX4_drawnBy_5 0 rfl rfl)
theorem dX4_drawnBy_119 : decode cX4_drawnBy 119 = .ok (.goto (-98), 3) := dk_167 255 158 (dk_at dksX4_drawnBy_5 3 rfl rfl)
theorem dX4_drawnBy_122 : decode cX4_drawnBy 122 = .ok (.iload_n 3, 1) := dk_29 (dk_at dksX4_drawnBy_5 6 rfl rfl)
theorem dX4_drawnBy_123 : decode cX4_drawnBy 123 = .ok (.ifCond .eq 7, 3) := dk_153 0 7 (dk_at dksX4_drawnBy_5 7 rfl rfl)
theorem dX4_drawnBy_126 : decode cX4_drawnBy 126 = .ok (.aload_n 2, 1) := dk_44 (dk_at dksX4_drawnBy_5 10 rfl rfl)
theorem dX4_drawnBy_127 : decode cX4_drawnBy 127 = .ok (.goto 4, 3) := dk_167 0 4 (dk_at dksX4_drawnBy_5 11 rfl rfl)
theorem dX4_drawnBy_130 : decode cX4_drawnBy 130 = .ok (.aconst_null, 1) := dk_1 (dk_at dksX4_drawnBy_5 14 rfl rfl)
theorem dX4_drawnBy_131 : decode cX4_drawnBy 131 = .ok (.areturn, 1) := dk_176 (dk_at dksX4_drawnBy_5 15 rfl rfl)
theorem q123 : (Jvm.Cond.initialized "GrassPark$Habit") ∈ lw_all := lw_g (lw_at lw_m1 7 rfl) rfl
theorem q309 : (Jvm.Cond.instantiable "GrassPark$Habit" (2 : Nat)) ∈ lw_all := lw_g (lw_at lw_m1 193 rfl) rfl
theorem q311 : (Jvm.Cond.instanceMethod ({ cls := "GrassPark$Habit", name := "<init>", desc := "()V" } : Jvm.MethodName)) ∈ lw_all := lw_g (lw_at lw_m1 195 rfl) rfl
theorem q312 : (Jvm.Cond.code ({ cls := "GrassPark$Habit", name := "<init>", desc := "()V" } : Jvm.MethodName) prog_5_method_1_code (1 : Nat) (Option.none : Option Jvm.ClassFile.FieldType)) ∈ lw_all := lw_g (lw_at lw_m1 196 rfl) rfl
theorem q313 : (Jvm.Cond.methodLink "GrassPark$Habit" (3 : Nat) ({ cls := "java/lang/Object", name := "<init>", desc := "()V" } : Jvm.MethodName)) ∈ lw_all := lw_g (lw_at lw_m1 197 rfl) rfl
theorem q314 : (Jvm.Cond.classLink "GrassPark$Habit" (9 : Nat) "java/util/ArrayList") ∈ lw_all := lw_g (lw_at lw_m1 198 rfl) rfl
theorem q315 : (Jvm.Cond.methodLink "GrassPark$Habit" (11 : Nat) ({ cls := "java/util/ArrayList", name := "<init>", desc := "()V" } : Jvm.MethodName)) ∈ lw_all := lw_g (lw_at lw_m1 199 rfl) rfl
theorem q316 : (Jvm.Cond.fieldLink "GrassPark$Habit" (12 : Nat) "GrassPark$Habit" "lines" "Ljava/util/ArrayList;") ∈ lw_all := lw_g (lw_at lw_m1 200 rfl) rfl
theorem q319 : (Jvm.Cond.fieldLink "GrassPark$Habit" (18 : Nat) "GrassPark$Habit" "sight" "I") ∈ lw_all := lw_g (lw_at lw_m1 203 rfl) rfl
theorem q322 : (Jvm.Cond.laysFinal "GrassPark$Habit" "GrassPark$Habit" "lines" "Ljava/util/ArrayList;") ∈ lw_all := lw_g (lw_at lw_m1 206 rfl) rfl
theorem q323 : (Jvm.Cond.soleField "GrassPark$Habit" "lines") ∈ lw_all := lw_g (lw_at lw_m1 207 rfl) rfl
theorem q324 : (Jvm.Cond.lays "GrassPark$Habit" "GrassPark$Habit" "sight" "I") ∈ lw_all := lw_g (lw_at lw_m1 208 rfl) rfl
theorem q325 : (Jvm.Cond.soleField "GrassPark$Habit" "sight") ∈ lw_all := lw_g (lw_at lw_m1 209 rfl) rfl
theorem q326 : (Jvm.Cond.superclass "GrassPark$Habit" "java/lang/Object") ∈ lw_all := lw_g (lw_at lw_m1 210 rfl) rfl
theorem q1032 : (Jvm.Cond.fieldLinkNest "GrassPark$Habit" (33 : Nat) "GrassPark$Line" "what" "I" "GrassPark") ∈ lw_tbl := lw_at lw_m4 196 rfl
theorem q1038 : (Jvm.Cond.fieldLinkNest "GrassPark$Habit" (36 : Nat) "GrassPark$Line" "cond" "LGrassPark$Cond;" "GrassPark") ∈ lw_tbl := lw_at lw_m4 202 rfl
theorem q1073 : (Jvm.Cond.selects "GrassPark$Habit" ({ cls := "java/lang/Object", name := "getClass", desc := "()Ljava/lang/Class;" } : Jvm.MethodName) ({ cls := "java/lang/Object", name := "getClass", desc := "()Ljava/lang/Class;" } : Jvm.MethodName)) ∈ lw_all := lw_g (lw_at lw_m4 237 rfl) rfl
theorem q1476 : (Jvm.Cond.instanceMethod ({ cls := "GrassPark$Habit", name := "drawnBy", desc := "(I)LGrassPark$Habit;" } : Jvm.MethodName)) ∈ lw_all := lw_g (lw_at lw_m6 160 rfl) rfl
theorem q1477 : (Jvm.Cond.selects "GrassPark$Habit" ({ cls := "GrassPark$Habit", name := "drawnBy", desc := "(I)LGrassPark$Habit;" } : Jvm.MethodName) ({ cls := "GrassPark$Habit", name := "drawnBy", desc := "(I)LGrassPark$Habit;" } : Jvm.MethodName)) ∈ lw_all := lw_g (lw_at lw_m6 161 rfl) rfl
theorem q1478 : (Jvm.Cond.code ({ cls := "GrassPark$Habit", name := "drawnBy", desc := "(I)LGrassPark$Habit;" } : Jvm.MethodName) prog_5_method_2_code (7 : Nat) (Option.some (Jvm.ClassFile.FieldType.object "GrassPark$Habit"))) ∈ lw_all := lw_g (lw_at lw_m6 162 rfl) rfl
theorem q1479 : (Jvm.Cond.classLink "GrassPark$Habit" (13 : Nat) "GrassPark$Habit") ∈ lw_all := lw_g (lw_at lw_m6 163 rfl) rfl
theorem q1480 : (Jvm.Cond.methodLink "GrassPark$Habit" (22 : Nat) ({ cls := "GrassPark$Habit", name := "<init>", desc := "()V" } : Jvm.MethodName)) ∈ lw_all := lw_g (lw_at lw_m6 164 rfl) rfl
theorem q1481 : (Jvm.Cond.methodLink "GrassPark$Habit" (23 : Nat) ({ cls := "java/util/ArrayList", name := "size", desc := "()I" } : Jvm.MethodName)) ∈ lw_all := lw_g (lw_at lw_m6 165 rfl) rfl
theorem q1482 : (Jvm.Cond.methodLink "GrassPark$Habit" (27 : Nat) ({ cls := "java/util/ArrayList", name := "get", desc := "(I)Ljava/lang/Object;" } : Jvm.MethodName)) ∈ lw_all := lw_g (lw_at lw_m6 166 rfl) rfl
theorem q1483 : (Jvm.Cond.classLink "GrassPark$Habit" (31 : Nat) "GrassPark$Line") ∈ lw_all := lw_g (lw_at lw_m6 167 rfl) rfl
theorem q1484 : (Jvm.Cond.methodLink "GrassPark$Habit" (40 : Nat) ({ cls := "GrassPark$Line", name := "<init>", desc := "(IILGrassPark$Cond;)V" } : Jvm.MethodName)) ∈ lw_all := lw_g (lw_at lw_m6 168 rfl) rfl
theorem q1485 : (Jvm.Cond.methodLink "GrassPark$Habit" (43 : Nat) ({ cls := "java/util/ArrayList", name := "add", desc := "(Ljava/lang/Object;)Z" } : Jvm.MethodName)) ∈ lw_all := lw_g (lw_at lw_m6 169 rfl) rfl
theorem q2283 : (Jvm.Cond.castable "GrassPark$Habit" "java/lang/Object") ∈ lw_tbl := lw_at lw_m10 7 rfl
theorem in_X4 : ∀ w ∈ wsX40, w ∈ lw_all := lw_in wsX40 [322, 324] (by decide +kernel) (by decide +kernel)
/-! GrassPark$Reader -/
set_option maxRecDepth 100000
def RX6 : String := "GrassPark$Reader"
def TX6 : u_T := fun k => match k with
  | 0 => ("GrassPark$Reader", "tape", "[B", true)
  | 1 => ("GrassPark$Reader", "size", "I", true)
  | 2 => ("GrassPark$Reader", "to", "I", false)
  | 3 => ("GrassPark$Reader", "kind", "I", false)
  | 4 => ("GrassPark$Reader", "from", "I", false)
  | 5 => ("GrassPark$Reader", "number", "I", false)
  | 6 => ("GrassPark$Reader", "sign", "I", false)
  | 7 => ("GrassPark$Reader", "ones", "I", false)
  | 8 => ("GrassPark$Reader", "within", "I", false)
  | 9 => ("GrassPark$Reader", "lines", "I", false)
  | 10 => ("GrassPark$Reader", "told", "I", false)
  | _ => ("GrassPark$Reader", "word", "Ljava/lang/String;", false)
def tyX6 : Nat → FieldType := fun k => match k with
  | 0 => .array .byte
  | 1 => .int
  | 2 => .int
  | 3 => .int
  | 4 => .int
  | 5 => .int
  | 6 => .int
  | 7 => .int
  | 8 => .int
  | 9 => .int
  | 10 => .int
  | _ => .object "java/lang/String"
abbrev wsX60 : List Cond := u_ws RX6 TX6 12
theorem nmX6 : ∀ a, a < 12 → ∀ b, b < 12 → a ≠ b → (TX6 a).2.1 ≠ (TX6 b).2.1 := by decide +kernel
theorem tyX6_ok : ∀ k, k < 12 → parseFieldDescriptor (TX6 k).2.2.1 = some (tyX6 k) := by decide +kernel
abbrev cX6_init : ByteArray := prog_8_method_1_code
def yX6_init : MethodName := ⟨RX6, "<init>", "([BI)V"⟩
def dkwX6_init_0 : List UInt8 := [42, 183, 0, 3, 42, 18, 9, 181, 0, 11, 42, 43, 181, 0, 17, 42, 28, 181, 0, 21, 177]
abbrev dktX6_init_0 : List UInt8 := dkwX6_init_0 ++ []
theorem dksX6_init_0 : cX6_init.data.toList.drop 0 = dktX6_init_0 := by decide +kernel
theorem dX6_init_0 : decode cX6_init 0 = .ok (.aload_n 0, 1) := dk_42 (dk_at dksX6_init_0 0 rfl rfl)
theorem dX6_init_1 : decode cX6_init 1 = .ok (.invokespecial 3, 3) := dk_183 0 3 (dk_at dksX6_init_0 1 rfl rfl)
theorem dX6_init_4 : decode cX6_init 4 = .ok (.aload_n 0, 1) := dk_42 (dk_at dksX6_init_0 4 rfl rfl)
theorem dX6_init_5 : decode cX6_init 5 = .ok (.ldc 9, 2) := dk_18 9 (dk_at dksX6_init_0 5 rfl rfl)
theorem dX6_init_7 : decode cX6_init 7 = .ok (.putfield 11, 3) := dk_181 0 11 (dk_at dksX6_init_0 7 rfl rfl)
theorem dX6_init_10 : decode cX6_init 10 = .ok (.aload_n 0, 1) := dk_42 (dk_at dksX6_init_0 10 rfl rfl)
theorem dX6_init_11 : decode cX6_init 11 = .ok (.aload_n 1, 1) := dk_43 (dk_at dksX6_init_0 11 rfl rfl)
theorem dX6_init_12 : decode cX6_init 12 = .ok (.putfield 17, 3) := dk_181 0 17 (dk_at dksX6_init_0 12 rfl rfl)
theorem dX6_init_15 : decode cX6_init 15 = .ok (.aload_n 0, 1) := dk_42 (dk_at dksX6_init_0 15 rfl rfl)
theorem dX6_init_16 : decode cX6_init 16 = .ok (.iload_n 2, 1) := dk_28 (dk_at dksX6_init_0 16 rfl rfl)
theorem dX6_init_17 : decode cX6_init 17 = .ok (.putfield 21, 3) := dk_181 0 21 (dk_at dksX6_init_0 17 rfl rfl)
theorem dX6_init_20 : decode cX6_init 20 = .ok (.return_, 1) := dk_177 (dk_at dksX6_init_0 20 rfl rfl)
abbrev cX6_readLaw : ByteArray := prog_8_method_13_code
def yX6_readLaw : MethodName := ⟨RX6, "readLaw", "()LGrassPark$Law;"⟩
def dkwX6_readLaw_7 : List UInt8 := [167, 255, 109, 43, 176]
abbrev dktX6_readLaw_7 : List UInt8 := dkwX6_readLaw_7 ++ []
def dkwX6_readLaw_6 : List UInt8 := [3, 167, 0, 4, 4, 21, 4, 42, 182, 0, 145, 183, 0, 149, 182, 0, 152, 87, 42, 182, 0, 157]
abbrev dktX6_readLaw_6 : List UInt8 := dkwX6_readLaw_6 ++ dktX6_readLaw_7
def dkwX6_readLaw_5 : List UInt8 := [160, 0, 12, 43, 21, 4, 181, 0, 137, 167, 0, 33, 43, 180, 0, 140, 187, 0, 143, 89, 29, 153, 0, 7]
abbrev dktX6_readLaw_5 : List UInt8 := dkwX6_readLaw_5 ++ dktX6_readLaw_6
def dkwX6_readLaw_4 : List UInt8 := [181, 0, 132, 167, 0, 61, 28, 4, 160, 0, 12, 43, 21, 4, 181, 0, 134, 167, 0, 47, 28, 5]
abbrev dktX6_readLaw_4 : List UInt8 := dkwX6_readLaw_4 ++ dktX6_readLaw_5
def dkwX6_readLaw_3 : List UInt8 := [154, 0, 7, 4, 167, 0, 4, 3, 17, 3, 231, 182, 0, 130, 54, 4, 28, 154, 0, 12, 43, 21, 4]
abbrev dktX6_readLaw_3 : List UInt8 := dkwX6_readLaw_3 ++ dktX6_readLaw_4
def dkwX6_readLaw_2 : List UInt8 := [154, 0, 8, 28, 2, 159, 0, 7, 4, 167, 0, 4, 3, 4, 182, 0, 78, 42, 28, 182, 0, 126, 42, 28]
abbrev dktX6_readLaw_2 : List UInt8 := dkwX6_readLaw_2 ++ dktX6_readLaw_3
def dkwX6_readLaw_1 : List UInt8 := [182, 0, 114, 61, 42, 18, 118, 182, 0, 120, 62, 42, 29, 154, 0, 17, 42, 18, 124, 182, 0, 120]
abbrev dktX6_readLaw_1 : List UInt8 := dkwX6_readLaw_1 ++ dktX6_readLaw_2
def dkwX6_readLaw_0 : List UInt8 := [187, 0, 109, 89, 183, 0, 111, 76, 42, 182, 0, 86, 42, 180, 0, 35, 153, 0, 146, 42, 18, 112]
abbrev dktX6_readLaw_0 : List UInt8 := dkwX6_readLaw_0 ++ dktX6_readLaw_1
theorem dksX6_readLaw_0 : cX6_readLaw.data.toList.drop 0 = dktX6_readLaw_0 := by decide +kernel
theorem dksX6_readLaw_1 : cX6_readLaw.data.toList.drop 22 = dktX6_readLaw_1 := dk_seg dksX6_readLaw_0 22 rfl rfl
theorem dksX6_readLaw_2 : cX6_readLaw.data.toList.drop 44 = dktX6_readLaw_2 := dk_seg dksX6_readLaw_1 22 rfl rfl
theorem dksX6_readLaw_3 : cX6_readLaw.data.toList.drop 68 = dktX6_readLaw_3 := dk_seg dksX6_readLaw_2 24 rfl rfl
theorem dksX6_readLaw_4 : cX6_readLaw.data.toList.drop 91 = dktX6_readLaw_4 := dk_seg dksX6_readLaw_3 23 rfl rfl
theorem dksX6_readLaw_5 : cX6_readLaw.data.toList.drop 113 = dktX6_readLaw_5 := dk_seg dksX6_readLaw_4 22 rfl rfl
theorem dksX6_readLaw_6 : cX6_readLaw.data.toList.drop 137 = dktX6_readLaw_6 := dk_seg dksX6_readLaw_5 24 rfl rfl
theorem dksX6_readLaw_7 : cX6_readLaw.data.toList.drop 159 = dktX6_readLaw_7 := dk_seg dksX6_readLaw_6 22 rfl rfl
theorem dX6_readLaw_0 : decode cX6_readLaw 0 = .ok (.new 109, 3) := dk_187 0 109 (dk_at dksX6_readLaw_0 0 rfl rfl)
theorem dX6_readLaw_3 : decode cX6_readLaw 3 = .ok (.dup, 1) := dk_89 (dk_at dksX6_readLaw_0 3 rfl rfl)
theorem dX6_readLaw_4 : decode cX6_readLaw 4 = .ok (.invokespecial 111, 3) := dk_183 0 111 (dk_at dksX6_readLaw_0 4 rfl rfl)
theorem dX6_readLaw_7 : decode cX6_readLaw 7 = .ok (.astore_n 1, 1) := dk_76 (dk_at dksX6_readLaw_0 7 rfl rfl)
theorem dX6_readLaw_8 : decode cX6_readLaw 8 = .ok (.aload_n 0, 1) := dk_42 (dk_at dksX6_readLaw_0 8 rfl rfl)
theorem dX6_readLaw_9 : decode cX6_readLaw 9 = .ok (.invokevirtual 86, 3) := dk_182 0 86 (dk_at dksX6_readLaw_0 9 rfl rfl)
theorem dX6_readLaw_12 : decode cX6_readLaw 12 = .ok (.aload_n 0, 1) := dk_42 (dk_at dksX6_readLaw_0 12 rfl rfl)
theorem dX6_readLaw_13 : decode cX6_readLaw 13 = .ok (.getfield 35, 3) := dk_180 0 35 (dk_at dksX6_readLaw_0 13 rfl rfl)
theorem dX6_readLaw_16 : decode cX6_readLaw 16 = .ok (.ifCond .eq 146, 3) := dk_153 0 146 (dk_at dksX6_readLaw_0 16 rfl rfl)
theorem dX6_readLaw_19 : decode cX6_readLaw 19 = .ok (.aload_n 0, 1) := dk_42 (dk_at dksX6_readLaw_0 19 rfl rfl)
theorem dX6_readLaw_20 : decode cX6_readLaw 20 = .ok (.ldc 112, 2) := dk_18 112 (dk_at dksX6_readLaw_0 20 rfl rfl)
theorem dX6_readLaw_22 : decode cX6_readLaw 22 = .ok (.invokevirtual 114, 3) := dk_182 0 114 (dk_at dksX6_readLaw_1 0 rfl rfl)
theorem dX6_readLaw_25 : decode cX6_readLaw 25 = .ok (.istore_n 2, 1) := dk_61 (dk_at dksX6_readLaw_1 3 rfl rfl)
theorem dX6_readLaw_26 : decode cX6_readLaw 26 = .ok (.aload_n 0, 1) := dk_42 (dk_at dksX6_readLaw_1 4 rfl rfl)
theorem dX6_readLaw_27 : decode cX6_readLaw 27 = .ok (.ldc 118, 2) := dk_18 118 (dk_at dksX6_readLaw_1 5 rfl rfl)
theorem dX6_readLaw_29 : decode cX6_readLaw 29 = .ok (.invokevirtual 120, 3) := dk_182 0 120 (dk_at dksX6_readLaw_1 7 rfl rfl)
theorem dX6_readLaw_32 : decode cX6_readLaw 32 = .ok (.istore_n 3, 1) := dk_62 (dk_at dksX6_readLaw_1 10 rfl rfl)
theorem dX6_readLaw_33 : decode cX6_readLaw 33 = .ok (.aload_n 0, 1) := dk_42 (dk_at dksX6_readLaw_1 11 rfl rfl)
theorem dX6_readLaw_34 : decode cX6_readLaw 34 = .ok (.iload_n 3, 1) := dk_29 (dk_at dksX6_readLaw_1 12 rfl rfl)
theorem dX6_readLaw_35 : decode cX6_readLaw 35 = .ok (.ifCond .ne 17, 3) := dk_154 0 17 (dk_at dksX6_readLaw_1 13 rfl rfl)
theorem dX6_readLaw_38 : decode cX6_readLaw 38 = .ok (.aload_n 0, 1) := dk_42 (dk_at dksX6_readLaw_1 16 rfl rfl)
theorem dX6_readLaw_39 : decode cX6_readLaw 39 = .ok (.ldc 124, 2) := dk_18 124 (dk_at dksX6_readLaw_1 17 rfl rfl)
theorem dX6_readLaw_41 : decode cX6_readLaw 41 = .ok (.invokevirtual 120, 3) := dk_182 0 120 (dk_at dksX6_readLaw_1 19 rfl rfl)
theorem dX6_readLaw_44 : decode cX6_readLaw 44 = .ok (.ifCond .ne 8, 3) := dk_154 0 8 (dk_at dksX6_readLaw_2 0 rfl rfl)
theorem dX6_readLaw_47 : decode cX6_readLaw 47 = .ok (.iload_n 2, 1) := dk_28 (dk_at dksX6_readLaw_2 3 rfl rfl)
theorem dX6_readLaw_48 : decode cX6_readLaw 48 = .ok (.iconst (-1), 1) := dk_2 (dk_at dksX6_readLaw_2 4 rfl rfl)
theorem dX6_readLaw_49 : decode cX6_readLaw 49 = .ok (.if_icmp .eq 7, 3) := dk_159 0 7 (dk_at dksX6_readLaw_2 5 rfl rfl)
theorem dX6_readLaw_52 : decode cX6_readLaw 52 = .ok (.iconst 1, 1) := dk_4 (dk_at dksX6_readLaw_2 8 rfl rfl)
theorem dX6_readLaw_53 : decode cX6_readLaw 53 = .ok (.goto 4, 3) := dk_167 0 4 (dk_at dksX6_readLaw_2 9 rfl rfl)
theorem dX6_readLaw_56 : decode cX6_readLaw 56 = .ok (.iconst 0, 1) := dk_3 (dk_at dksX6_readLaw_2 12 rfl rfl)
theorem dX6_readLaw_57 : decode cX6_readLaw 57 = .ok (.iconst 1, 1) := dk_4 (dk_at dksX6_readLaw_2 13 rfl rfl)
theorem dX6_readLaw_58 : decode cX6_readLaw 58 = .ok (.invokevirtual 78, 3) := dk_182 0 78 (dk_at dksX6_readLaw_2 14 rfl rfl)
theorem dX6_readLaw_61 : decode cX6_readLaw 61 = .ok (.aload_n 0, 1) := dk_42 (dk_at dksX6_readLaw_2 17 rfl rfl)
theorem dX6_readLaw_62 : decode cX6_readLaw 62 = .ok (.iload_n 2, 1) := dk_28 (dk_at dksX6_readLaw_2 18 rfl rfl)
theorem dX6_readLaw_63 : decode cX6_readLaw 63 = .ok (.invokevirtual 126, 3) := dk_182 0 126 (dk_at dksX6_readLaw_2 19 rfl rfl)
theorem dX6_readLaw_66 : decode cX6_readLaw 66 = .ok (.aload_n 0, 1) := dk_42 (dk_at dksX6_readLaw_2 22 rfl rfl)
theorem dX6_readLaw_67 : decode cX6_readLaw 67 = .ok (.iload_n 2, 1) := dk_28 (dk_at dksX6_readLaw_2 23 rfl rfl)
theorem dX6_readLaw_68 : decode cX6_readLaw 68 = .ok (.ifCond .ne 7, 3) := dk_154 0 7 (dk_at dksX6_readLaw_3 0 rfl rfl)
theorem dX6_readLaw_71 : decode cX6_readLaw 71 = .ok (.iconst 1, 1) := dk_4 (dk_at dksX6_readLaw_3 3 rfl rfl)
theorem dX6_readLaw_72 : decode cX6_readLaw 72 = .ok (.goto 4, 3) := dk_167 0 4 (dk_at dksX6_readLaw_3 4 rfl rfl)
theorem dX6_readLaw_75 : decode cX6_readLaw 75 = .ok (.iconst 0, 1) := dk_3 (dk_at dksX6_readLaw_3 7 rfl rfl)
theorem dX6_readLaw_76 : decode cX6_readLaw 76 = .ok (.sipush 999, 3) := dk_17 3 231 (dk_at dksX6_readLaw_3 8 rfl rfl)
theorem dX6_readLaw_79 : decode cX6_readLaw 79 = .ok (.invokevirtual 130, 3) := dk_182 0 130 (dk_at dksX6_readLaw_3 11 rfl rfl)
theorem dX6_readLaw_82 : decode cX6_readLaw 82 = .ok (.istore 4, 2) := dk_54 4 (dk_at dksX6_readLaw_3 14 rfl rfl)
theorem dX6_readLaw_84 : decode cX6_readLaw 84 = .ok (.iload_n 2, 1) := dk_28 (dk_at dksX6_readLaw_3 16 rfl rfl)
theorem dX6_readLaw_85 : decode cX6_readLaw 85 = .ok (.ifCond .ne 12, 3) := dk_154 0 12 (dk_at dksX6_readLaw_3 17 rfl rfl)
theorem dX6_readLaw_88 : decode cX6_readLaw 88 = .ok (.aload_n 1, 1) := dk_43 (dk_at dksX6_readLaw_3 20 rfl rfl)
theorem dX6_readLaw_89 : decode cX6_readLaw 89 = .ok (.iload 4, 2) := dk_21 4 (dk_at dksX6_readLaw_3 21 rfl rfl)
theorem dX6_readLaw_91 : decode cX6_readLaw 91 = .ok (.putfield 132, 3) := dk_181 0 132 (dk_at dksX6_readLaw_4 0 rfl rfl)
theorem dX6_readLaw_94 : decode cX6_readLaw 94 = .ok (.goto 61, 3) := dk_167 0 61 (dk_at dksX6_readLaw_4 3 rfl rfl)
theorem dX6_readLaw_97 : decode cX6_readLaw 97 = .ok (.iload_n 2, 1) := dk_28 (dk_at dksX6_readLaw_4 6 rfl rfl)
theorem dX6_readLaw_98 : decode cX6_readLaw 98 = .ok (.iconst 1, 1) := dk_4 (dk_at dksX6_readLaw_4 7 rfl rfl)
theorem dX6_readLaw_99 : decode cX6_readLaw 99 = .ok (.if_icmp .ne 12, 3) := dk_160 0 12 (dk_at dksX6_readLaw_4 8 rfl rfl)
theorem dX6_readLaw_102 : decode cX6_readLaw 102 = .ok (.aload_n 1, 1) := dk_43 (dk_at dksX6_readLaw_4 11 rfl rfl)
theorem dX6_readLaw_103 : decode cX6_readLaw 103 = .ok (.iload 4, 2) := dk_21 4 (dk_at dksX6_readLaw_4 12 rfl rfl)
theorem dX6_readLaw_105 : decode cX6_readLaw 105 = .ok (.putfield 134, 3) := dk_181 0 134 (dk_at dksX6_readLaw_4 14 rfl rfl)
theorem dX6_readLaw_108 : decode cX6_readLaw 108 = .ok (.goto 47, 3) := dk_167 0 47 (dk_at dksX6_readLaw_4 17 rfl rfl)
theorem dX6_readLaw_111 : decode cX6_readLaw 111 = .ok (.iload_n 2, 1) := dk_28 (dk_at dksX6_readLaw_4 20 rfl rfl)
theorem dX6_readLaw_112 : decode cX6_readLaw 112 = .ok (.iconst 2, 1) := dk_5 (dk_at dksX6_readLaw_4 21 rfl rfl)
theorem dX6_readLaw_113 : decode cX6_readLaw 113 = .ok (.if_icmp .ne 12, 3) := dk_160 0 12 (dk_at dksX6_readLaw_5 0 rfl rfl)
theorem dX6_readLaw_116 : decode cX6_readLaw 116 = .ok (.aload_n 1, 1) := dk_43 (dk_at dksX6_readLaw_5 3 rfl rfl)
theorem dX6_readLaw_117 : decode cX6_readLaw 117 = .ok (.iload 4, 2) := dk_21 4 (dk_at dksX6_readLaw_5 4 rfl rfl)
theorem dX6_readLaw_119 : decode cX6_readLaw 119 = .ok (.putfield 137, 3) := dk_181 0 137 (dk_at dksX6_readLaw_5 6 rfl rfl)
theorem dX6_readLaw_122 : decode cX6_readLaw 122 = .ok (.goto 33, 3) := dk_167 0 33 (dk_at dksX6_readLaw_5 9 rfl rfl)
theorem dX6_readLaw_125 : decode cX6_readLaw 125 = .ok (.aload_n 1, 1) := dk_43 (dk_at dksX6_readLaw_5 12 rfl rfl)
theorem dX6_readLaw_126 : decode cX6_readLaw 126 = .ok (.getfield 140, 3) := dk_180 0 140 (dk_at dksX6_readLaw_5 13 rfl rfl)
theorem dX6_readLaw_129 : decode cX6_readLaw 129 = .ok (.new 143, 3) := dk_187 0 143 (dk_at dksX6_readLaw_5 16 rfl rfl)
theorem dX6_readLaw_132 : decode cX6_readLaw 132 = .ok (.dup, 1) := dk_89 (dk_at dksX6_readLaw_5 19 rfl rfl)
theorem dX6_readLaw_133 : decode cX6_readLaw 133 = .ok (.iload_n 3, 1) := dk_29 (dk_at dksX6_readLaw_5 20 rfl rfl)
theorem dX6_readLaw_134 : decode cX6_readLaw 134 = .ok (.ifCond .eq 7, 3) := dk_153 0 7 (dk_at dksX6_readLaw_5 21 rfl rfl)
theorem dX6_readLaw_137 : decode cX6_readLaw 137 = .ok (.iconst 0, 1) := dk_3 (dk_at dksX6_readLaw_6 0 rfl rfl)
theorem dX6_readLaw_138 : decode cX6_readLaw 138 = .ok (.goto 4, 3) := dk_167 0 4 (dk_at dksX6_readLaw_6 1 rfl rfl)
theorem dX6_readLaw_141 : decode cX6_readLaw 141 = .ok (.iconst 1, 1) := dk_4 (dk_at dksX6_readLaw_6 4 rfl rfl)
theorem dX6_readLaw_142 : decode cX6_readLaw 142 = .ok (.iload 4, 2) := dk_21 4 (dk_at dksX6_readLaw_6 5 rfl rfl)
theorem dX6_readLaw_144 : decode cX6_readLaw 144 = .ok (.aload_n 0, 1) := dk_42 (dk_at dksX6_readLaw_6 7 rfl rfl)
theorem dX6_readLaw_145 : decode cX6_readLaw 145 = .ok (.invokevirtual 145, 3) := dk_182 0 145 (dk_at dksX6_readLaw_6 8 rfl rfl)
theorem dX6_readLaw_148 : decode cX6_readLaw 148 = .ok (.invokespecial 149, 3) := dk_183 0 149 (dk_at dksX6_readLaw_6 11 rfl rfl)
theorem dX6_readLaw_151 : decode cX6_readLaw 151 = .ok (.invokevirtual 152, 3) := dk_182 0 152 (dk_at dksX6_readLaw_6 14 rfl rfl)
theorem dX6_readLaw_154 : decode cX6_readLaw 154 = .ok (.pop, 1) := dk_87 (dk_at dksX6_readLaw_6 17 rfl rfl)
theorem dX6_readLaw_155 : decode cX6_readLaw 155 = .ok (.aload_n 0, 1) := dk_42 (dk_at dksX6_readLaw_6 18 rfl rfl)
theorem dX6_readLaw_156 : decode cX6_readLaw 156 = .ok (.invokevirtual 157, 3) := dk_182 0 157 (dk_at dksX6_readLaw_6 19 rfl rfl)
theorem dX6_readLaw_159 : decode cX6_readLaw 159 = .ok (.goto (-147), 3) := dk_167 255 109 (dk_at dksX6_readLaw_7 0 rfl rfl)
theorem dX6_readLaw_162 : decode cX6_readLaw 162 = .ok (.aload_n 1, 1) := dk_43 (dk_at dksX6_readLaw_7 3 rfl rfl)
theorem dX6_readLaw_163 : decode cX6_readLaw 163 = .ok (.areturn, 1) := dk_176 (dk_at dksX6_readLaw_7 4 rfl rfl)
abbrev cX6_go : ByteArray := prog_8_method_5_code
def yX6_go : MethodName := ⟨RX6, "go", "()V"⟩
def dkwX6_go_15 : List UInt8 := [167, 0, 4, 6, 164, 0, 7, 4, 167, 0, 12, 28, 153, 0, 7, 5, 167, 0, 4, 6, 181, 0, 35, 177]
abbrev dktX6_go_15 : List UInt8 := dkwX6_go_15 ++ []
def dkwX6_go_14 : List UInt8 := [181, 0, 11, 42, 29, 153, 0, 25, 42, 180, 0, 25, 42, 180, 0, 32, 100, 28, 153, 0, 8, 16, 6]
abbrev dktX6_go_14 : List UInt8 := dkwX6_go_14 ++ dktX6_go_15
def dkwX6_go_13 : List UInt8 := [181, 0, 55, 42, 89, 180, 0, 25, 4, 96, 181, 0, 25, 167, 255, 128, 42, 25, 4, 182, 0, 65]
abbrev dktX6_go_13 : List UInt8 := dkwX6_go_13 ++ dktX6_go_14
def dkwX6_go_12 : List UInt8 := [6, 162, 0, 26, 42, 16, 10, 42, 180, 0, 55, 104, 42, 42, 180, 0, 25, 182, 0, 28, 96, 16, 48, 100]
abbrev dktX6_go_12 : List UInt8 := dkwX6_go_12 ++ dktX6_go_13
def dkwX6_go_11 : List UInt8 := [25, 4, 42, 42, 180, 0, 25, 182, 0, 28, 146, 182, 0, 61, 87, 42, 180, 0, 25, 42, 180, 0, 32, 100]
abbrev dktX6_go_11 : List UInt8 := dkwX6_go_11 ++ dktX6_go_12
def dkwX6_go_10 : List UInt8 := [160, 0, 7, 4, 167, 0, 4, 3, 62, 42, 180, 0, 25, 42, 180, 0, 32, 100, 16, 6, 162, 0, 18]
abbrev dktX6_go_10 : List UInt8 := dkwX6_go_10 ++ dktX6_go_11
def dkwX6_go_9 : List UInt8 := [184, 0, 42, 153, 0, 106, 29, 153, 0, 22, 42, 42, 180, 0, 25, 182, 0, 28, 184, 0, 38, 28]
abbrev dktX6_go_9 : List UInt8 := dkwX6_go_9 ++ dktX6_go_10
def dkwX6_go_8 : List UInt8 := [58, 4, 42, 42, 180, 0, 25, 182, 0, 28, 184, 0, 38, 154, 0, 17, 42, 42, 180, 0, 25, 182, 0, 28]
abbrev dktX6_go_8 : List UInt8 := dkwX6_go_8 ++ dktX6_go_9
def dkwX6_go_7 : List UInt8 := [181, 0, 25, 177, 27, 184, 0, 38, 61, 4, 62, 42, 3, 181, 0, 55, 187, 0, 58, 89, 183, 0, 60]
abbrev dktX6_go_7 : List UInt8 := dkwX6_go_7 ++ dktX6_go_8
def dkwX6_go_6 : List UInt8 := [155, 0, 7, 7, 167, 0, 4, 4, 181, 0, 35, 42, 27, 181, 0, 52, 42, 89, 180, 0, 25, 4, 96]
abbrev dktX6_go_6 : List UInt8 := dkwX6_go_6 ++ dktX6_go_7
def dkwX6_go_5 : List UInt8 := [60, 27, 184, 0, 38, 154, 0, 44, 27, 184, 0, 42, 154, 0, 37, 42, 18, 45, 27, 182, 0, 47]
abbrev dktX6_go_5 : List UInt8 := dkwX6_go_5 ++ dktX6_go_6
def dkwX6_go_4 : List UInt8 := [180, 0, 25, 42, 180, 0, 21, 161, 0, 9, 42, 3, 181, 0, 35, 177, 42, 42, 180, 0, 25, 182, 0, 28]
abbrev dktX6_go_4 : List UInt8 := dkwX6_go_4 ++ dktX6_go_5
def dkwX6_go_3 : List UInt8 := [180, 0, 32, 17, 1, 144, 161, 0, 16, 42, 17, 1, 144, 181, 0, 32, 42, 8, 181, 0, 35, 177, 42]
abbrev dktX6_go_3 : List UInt8 := dkwX6_go_3 ++ dktX6_go_4
def dkwX6_go_2 : List UInt8 := [167, 255, 209, 42, 42, 180, 0, 25, 181, 0, 32, 42, 180, 0, 21, 17, 1, 144, 164, 0, 26, 42]
abbrev dktX6_go_2 : List UInt8 := dkwX6_go_2 ++ dktX6_go_3
def dkwX6_go_1 : List UInt8 := [42, 42, 180, 0, 25, 182, 0, 28, 16, 10, 160, 0, 16, 42, 89, 180, 0, 25, 4, 96, 181, 0, 25]
abbrev dktX6_go_1 : List UInt8 := dkwX6_go_1 ++ dktX6_go_2
def dkwX6_go_0 : List UInt8 := [42, 180, 0, 25, 42, 180, 0, 21, 162, 0, 42, 42, 42, 180, 0, 25, 182, 0, 28, 16, 32, 159, 0, 16]
abbrev dktX6_go_0 : List UInt8 := dkwX6_go_0 ++ dktX6_go_1
theorem dksX6_go_0 : cX6_go.data.toList.drop 0 = dktX6_go_0 := by decide +kernel
theorem dksX6_go_1 : cX6_go.data.toList.drop 24 = dktX6_go_1 := dk_seg dksX6_go_0 24 rfl rfl
theorem dksX6_go_2 : cX6_go.data.toList.drop 47 = dktX6_go_2 := dk_seg dksX6_go_1 23 rfl rfl
theorem dksX6_go_3 : cX6_go.data.toList.drop 69 = dktX6_go_3 := dk_seg dksX6_go_2 22 rfl rfl
theorem dksX6_go_4 : cX6_go.data.toList.drop 92 = dktX6_go_4 := dk_seg dksX6_go_3 23 rfl rfl
theorem dksX6_go_5 : cX6_go.data.toList.drop 116 = dktX6_go_5 := dk_seg dksX6_go_4 24 rfl rfl
theorem dksX6_go_6 : cX6_go.data.toList.drop 138 = dktX6_go_6 := dk_seg dksX6_go_5 22 rfl rfl
theorem dksX6_go_7 : cX6_go.data.toList.drop 161 = dktX6_go_7 := dk_seg dksX6_go_6 23 rfl rfl
theorem dksX6_go_8 : cX6_go.data.toList.drop 184 = dktX6_go_8 := dk_seg dksX6_go_7 23 rfl rfl
theorem dksX6_go_9 : cX6_go.data.toList.drop 208 = dktX6_go_9 := dk_seg dksX6_go_8 24 rfl rfl
theorem dksX6_go_10 : cX6_go.data.toList.drop 230 = dktX6_go_10 := dk_seg dksX6_go_9 22 rfl rfl
theorem dksX6_go_11 : cX6_go.data.toList.drop 253 = dktX6_go_11 := dk_seg dksX6_go_10 23 rfl rfl
theorem dksX6_go_12 : cX6_go.data.toList.drop 277 = dktX6_go_12 := dk_seg dksX6_go_11 24 rfl rfl
theorem dksX6_go_13 : cX6_go.data.toList.drop 301 = dktX6_go_13 := dk_seg dksX6_go_12 24 rfl rfl
theorem dksX6_go_14 : cX6_go.data.toList.drop 323 = dktX6_go_14 := dk_seg dksX6_go_13 22 rfl rfl
theorem dksX6_go_15 : cX6_go.data.toList.drop 346 = dktX6_go_15 := dk_seg dksX6_go_14 23 rfl rfl
theorem dX6_go_0 : decode cX6_go 0 = .ok (.aload_n 0, 1) := dk_42 (dk_at dksX6_go_0 0 rfl rfl)
theorem dX6_go_1 : decode cX6_go 1 = .ok (.getfield 25, 3) := dk_180 0 25 (dk_at dksX6_go_0 1 rfl rfl)
theorem dX6_go_4 : decode cX6_go 4 = .ok (.aload_n 0, 1) := dk_42 (dk_at dksX6_go_0 4 rfl rfl)
theorem dX6_go_5 : decode cX6_go 5 = .ok (.getfield 21, 3) := dk_180 0 21 (dk_at dksX6_go_0 5 rfl rfl)
theorem dX6_go_8 : decode cX6_go 8 = .ok (.if_icmp .ge 42, 3) := dk_162 0 42 (dk_at dksX6_go_0 8 rfl rfl)
theorem dX6_go_11 : decode cX6_go 11 = .ok (.aload_n 0, 1) := dk_42 (dk_at dksX6_go_0 11 rfl rfl)
theorem dX6_go_12 : decode cX6_go 12 = .ok (.aload_n 0, 1) := dk_42 (dk_at dksX6_go_0 12 rfl rfl)
theorem dX6_go_13 : decode cX6_go 13 = .ok (.getfield 25, 3) := dk_180 0 25 (dk_at dksX6_go_0 13 rfl rfl)
theorem dX6_go_16 : decode cX6_go 16 = .ok (.invokevirtual 28, 3) := dk_182 0 28 (dk_at dksX6_go_0 16 rfl rfl)
theorem dX6_go_19 : decode cX6_go 19 = .ok (.bipush 32, 2) := dk_16 32 (dk_at dksX6_go_0 19 rfl rfl)
theorem dX6_go_21 : decode cX6_go 21 = .ok (.if_icmp .eq 16, 3) := dk_159 0 16 (dk_at dksX6_go_0 21 rfl rfl)
theorem dX6_go_24 : decode cX6_go 24 = .ok (.aload_n 0, 1) := dk_42 (dk_at dksX6_go_1 0 rfl rfl)
theorem dX6_go_25 : decode cX6_go 25 = .ok (.aload_n 0, 1) := dk_42 (dk_at dksX6_go_1 1 rfl rfl)
theorem dX6_go_26 : decode cX6_go 26 = .ok (.getfield 25, 3) := dk_180 0 25 (dk_at dksX6_go_1 2 rfl rfl)
theorem dX6_go_29 : decode cX6_go 29 = .ok (.invokevirtual 28, 3) := dk_182 0 28 (dk_at dksX6_go_1 5 rfl rfl)
theorem dX6_go_32 : decode cX6_go 32 = .ok (.bipush 10, 2) := dk_16 10 (dk_at dksX6_go_1 8 rfl rfl)
theorem dX6_go_34 : decode cX6_go 34 = .ok (.if_icmp .ne 16, 3) := dk_160 0 16 (dk_at dksX6_go_1 10 rfl rfl)
theorem dX6_go_37 : decode cX6_go 37 = .ok (.aload_n 0, 1) := dk_42 (dk_at dksX6_go_1 13 rfl rfl)
theorem dX6_go_38 : decode cX6_go 38 = .ok (.dup, 1) := dk_89 (dk_at dksX6_go_1 14 rfl rfl)
theorem dX6_go_39 : decode cX6_go 39 = .ok (.getfield 25, 3) := dk_180 0 25 (dk_at dksX6_go_1 15 rfl rfl)
theorem dX6_go_42 : decode cX6_go 42 = .ok (.iconst 1, 1) := dk_4 (dk_at dksX6_go_1 18 rfl rfl)
theorem dX6_go_43 : decode cX6_go 43 = .ok (.iadd, 1) := dk_96 (dk_at dksX6_go_1 19 rfl rfl)
theorem dX6_go_44 : decode cX6_go 44 = .ok (.putfield 25, 3) := dk_181 0 25 (dk_at dksX6_go_1 20 rfl rfl)
theorem dX6_go_47 : decode cX6_go 47 = .ok (.goto (-47), 3) := dk_167 255 209 (dk_at dksX6_go_2 0 rfl rfl)
theorem dX6_go_50 : decode cX6_go 50 = .ok (.aload_n 0, 1) := dk_42 (dk_at dksX6_go_2 3 rfl rfl)
theorem dX6_go_51 : decode cX6_go 51 = .ok (.aload_n 0, 1) := dk_42 (dk_at dksX6_go_2 4 rfl rfl)
theorem dX6_go_52 : decode cX6_go 52 = .ok (.getfield 25, 3) := dk_180 0 25 (dk_at dksX6_go_2 5 rfl rfl)
theorem dX6_go_55 : decode cX6_go 55 = .ok (.putfield 32, 3) := dk_181 0 32 (dk_at dksX6_go_2 8 rfl rfl)
theorem dX6_go_58 : decode cX6_go 58 = .ok (.aload_n 0, 1) := dk_42 (dk_at dksX6_go_2 11 rfl rfl)
theorem dX6_go_59 : decode cX6_go 59 = .ok (.getfield 21, 3) := dk_180 0 21 (dk_at dksX6_go_2 12 rfl rfl)
theorem dX6_go_62 : decode cX6_go 62 = .ok (.sipush 400, 3) := dk_17 1 144 (dk_at dksX6_go_2 15 rfl rfl)
theorem dX6_go_65 : decode cX6_go 65 = .ok (.if_icmp .le 26, 3) := dk_164 0 26 (dk_at dksX6_go_2 18 rfl rfl)
theorem dX6_go_68 : decode cX6_go 68 = .ok (.aload_n 0, 1) := dk_42 (dk_at dksX6_go_2 21 rfl rfl)
theorem dX6_go_69 : decode cX6_go 69 = .ok (.getfield 32, 3) := dk_180 0 32 (dk_at dksX6_go_3 0 rfl rfl)
theorem dX6_go_72 : decode cX6_go 72 = .ok (.sipush 400, 3) := dk_17 1 144 (dk_at dksX6_go_3 3 rfl rfl)
theorem dX6_go_75 : decode cX6_go 75 = .ok (.if_icmp .lt 16, 3) := dk_161 0 16 (dk_at dksX6_go_3 6 rfl rfl)
theorem dX6_go_78 : decode cX6_go 78 = .ok (.aload_n 0, 1) := dk_42 (dk_at dksX6_go_3 9 rfl rfl)
theorem dX6_go_79 : decode cX6_go 79 = .ok (.sipush 400, 3) := dk_17 1 144 (dk_at dksX6_go_3 10 rfl rfl)
theorem dX6_go_82 : decode cX6_go 82 = .ok (.putfield 32, 3) := dk_181 0 32 (dk_at dksX6_go_3 13 rfl rfl)
theorem dX6_go_85 : decode cX6_go 85 = .ok (.aload_n 0, 1) := dk_42 (dk_at dksX6_go_3 16 rfl rfl)
theorem dX6_go_86 : decode cX6_go 86 = .ok (.iconst 5, 1) := dk_8 (dk_at dksX6_go_3 17 rfl rfl)
theorem dX6_go_87 : decode cX6_go 87 = .ok (.putfield 35, 3) := dk_181 0 35 (dk_at dksX6_go_3 18 rfl rfl)
theorem dX6_go_90 : decode cX6_go 90 = .ok (.return_, 1) := dk_177 (dk_at dksX6_go_3 21 rfl rfl)
theorem dX6_go_91 : decode cX6_go 91 = .ok (.aload_n 0, 1) := dk_42 (dk_at dksX6_go_3 22 rfl rfl)
theorem dX6_go_92 : decode cX6_go 92 = .ok (.getfield 25, 3) := dk_180 0 25 (dk_at dksX6_go_4 0 rfl rfl)
theorem dX6_go_95 : decode cX6_go 95 = .ok (.aload_n 0, 1) := dk_42 (dk_at dksX6_go_4 3 rfl rfl)
theorem dX6_go_96 : decode cX6_go 96 = .ok (.getfield 21, 3) := dk_180 0 21 (dk_at dksX6_go_4 4 rfl rfl)
theorem dX6_go_99 : decode cX6_go 99 = .ok (.if_icmp .lt 9, 3) := dk_161 0 9 (dk_at dksX6_go_4 7 rfl rfl)
theorem dX6_go_102 : decode cX6_go 102 = .ok (.aload_n 0, 1) := dk_42 (dk_at dksX6_go_4 10 rfl rfl)
theorem dX6_go_103 : decode cX6_go 103 = .ok (.iconst 0, 1) := dk_3 (dk_at dksX6_go_4 11 rfl rfl)
theorem dX6_go_104 : decode cX6_go 104 = .ok (.putfield 35, 3) := dk_181 0 35 (dk_at dksX6_go_4 12 rfl rfl)
theorem dX6_go_107 : decode cX6_go 107 = .ok (.return_, 1) := dk_177 (dk_at dksX6_go_4 15 rfl rfl)
theorem dX6_go_108 : decode cX6_go 108 = .ok (.aload_n 0, 1) := dk_42 (dk_at dksX6_go_4 16 rfl rfl)
theorem dX6_go_109 : decode cX6_go 109 = .ok (.aload_n 0, 1) := dk_42 (dk_at dksX6_go_4 17 rfl rfl)
theorem dX6_go_110 : decode cX6_go 110 = .ok (.getfield 25, 3) := dk_180 0 25 (dk_at dksX6_go_4 18 rfl rfl)
theorem dX6_go_113 : decode cX6_go 113 = .ok (.invokevirtual 28, 3) := dk_182 0 28 (dk_at dksX6_go_4 21 rfl rfl)
theorem dX6_go_116 : decode cX6_go 116 = .ok (.istore_n 1, 1) := dk_60 (dk_at dksX6_go_5 0 rfl rfl)
theorem dX6_go_117 : decode cX6_go 117 = .ok (.iload_n 1, 1) := dk_27 (dk_at dksX6_go_5 1 rfl rfl)
theorem dX6_go_118 : decode cX6_go 118 = .ok (.invokestatic 38, 3) := dk_184 0 38 (dk_at dksX6_go_5 2 rfl rfl)
theorem dX6_go_121 : decode cX6_go 121 = .ok (.ifCond .ne 44, 3) := dk_154 0 44 (dk_at dksX6_go_5 5 rfl rfl)
theorem dX6_go_124 : decode cX6_go 124 = .ok (.iload_n 1, 1) := dk_27 (dk_at dksX6_go_5 8 rfl rfl)
theorem dX6_go_125 : decode cX6_go 125 = .ok (.invokestatic 42, 3) := dk_184 0 42 (dk_at dksX6_go_5 9 rfl rfl)
theorem dX6_go_128 : decode cX6_go 128 = .ok (.ifCond .ne 37, 3) := dk_154 0 37 (dk_at dksX6_go_5 12 rfl rfl)
theorem dX6_go_131 : decode cX6_go 131 = .ok (.aload_n 0, 1) := dk_42 (dk_at dksX6_go_5 15 rfl rfl)
theorem dX6_go_132 : decode cX6_go 132 = .ok (.ldc 45, 2) := dk_18 45 (dk_at dksX6_go_5 16 rfl rfl)
theorem dX6_go_134 : decode cX6_go 134 = .ok (.iload_n 1, 1) := dk_27 (dk_at dksX6_go_5 18 rfl rfl)
theorem dX6_go_135 : decode cX6_go 135 = .ok (.invokevirtual 47, 3) := dk_182 0 47 (dk_at dksX6_go_5 19 rfl rfl)
theorem dX6_go_138 : decode cX6_go 138 = .ok (.ifCond .lt 7, 3) := dk_155 0 7 (dk_at dksX6_go_6 0 rfl rfl)
theorem dX6_go_141 : decode cX6_go 141 = .ok (.iconst 4, 1) := dk_7 (dk_at dksX6_go_6 3 rfl rfl)
theorem dX6_go_142 : decode cX6_go 142 = .ok (.goto 4, 3) := dk_167 0 4 (dk_at dksX6_go_6 4 rfl rfl)
theorem dX6_go_145 : decode cX6_go 145 = .ok (.iconst 1, 1) := dk_4 (dk_at dksX6_go_6 7 rfl rfl)
theorem dX6_go_146 : decode cX6_go 146 = .ok (.putfield 35, 3) := dk_181 0 35 (dk_at dksX6_go_6 8 rfl rfl)
theorem dX6_go_149 : decode cX6_go 149 = .ok (.aload_n 0, 1) := dk_42 (dk_at dksX6_go_6 11 rfl rfl)
theorem dX6_go_150 : decode cX6_go 150 = .ok (.iload_n 1, 1) := dk_27 (dk_at dksX6_go_6 12 rfl rfl)
theorem dX6_go_151 : decode cX6_go 151 = .ok (.putfield 52, 3) := dk_181 0 52 (dk_at dksX6_go_6 13 rfl rfl)
theorem dX6_go_154 : decode cX6_go 154 = .ok (.aload_n 0, 1) := dk_42 (dk_at dksX6_go_6 16 rfl rfl)
theorem dX6_go_155 : decode cX6_go 155 = .ok (.dup, 1) := dk_89 (dk_at dksX6_go_6 17 rfl rfl)
theorem dX6_go_156 : decode cX6_go 156 = .ok (.getfield 25, 3) := dk_180 0 25 (dk_at dksX6_go_6 18 rfl rfl)
theorem dX6_go_159 : decode cX6_go 159 = .ok (.iconst 1, 1) := dk_4 (dk_at dksX6_go_6 21 rfl rfl)
theorem dX6_go_160 : decode cX6_go 160 = .ok (.iadd, 1) := dk_96 (dk_at dksX6_go_6 22 rfl rfl)
theorem dX6_go_161 : decode cX6_go 161 = .ok (.putfield 25, 3) := dk_181 0 25 (dk_at dksX6_go_7 0 rfl rfl)
theorem dX6_go_164 : decode cX6_go 164 = .ok (.return_, 1) := dk_177 (dk_at dksX6_go_7 3 rfl rfl)
theorem dX6_go_165 : decode cX6_go 165 = .ok (.iload_n 1, 1) := dk_27 (dk_at dksX6_go_7 4 rfl rfl)
theorem dX6_go_166 : decode cX6_go 166 = .ok (.invokestatic 38, 3) := dk_184 0 38 (dk_at dksX6_go_7 5 rfl rfl)
theorem dX6_go_169 : decode cX6_go 169 = .ok (.istore_n 2, 1) := dk_61 (dk_at dksX6_go_7 8 rfl rfl)
theorem dX6_go_170 : decode cX6_go 170 = .ok (.iconst 1, 1) := dk_4 (dk_at dksX6_go_7 9 rfl rfl)
theorem dX6_go_171 : decode cX6_go 171 = .ok (.istore_n 3, 1) := dk_62 (dk_at dksX6_go_7 10 rfl rfl)
theorem dX6_go_172 : decode cX6_go 172 = .ok (.aload_n 0, 1) := dk_42 (dk_at dksX6_go_7 11 rfl rfl)
theorem dX6_go_173 : decode cX6_go 173 = .ok (.iconst 0, 1) := dk_3 (dk_at dksX6_go_7 12 rfl rfl)
theorem dX6_go_174 : decode cX6_go 174 = .ok (.putfield 55, 3) := dk_181 0 55 (dk_at dksX6_go_7 13 rfl rfl)
theorem dX6_go_177 : decode cX6_go 177 = .ok (.new 58, 3) := dk_187 0 58 (dk_at dksX6_go_7 16 rfl rfl)
theorem dX6_go_180 : decode cX6_go 180 = .ok (.dup, 1) := dk_89 (dk_at dksX6_go_7 19 rfl rfl)
theorem dX6_go_181 : decode cX6_go 181 = .ok (.invokespecial 60, 3) := dk_183 0 60 (dk_at dksX6_go_7 20 rfl rfl)
theorem dX6_go_184 : decode cX6_go 184 = .ok (.astore 4, 2) := dk_58 4 (dk_at dksX6_go_8 0 rfl rfl)
theorem dX6_go_186 : decode cX6_go 186 = .ok (.aload_n 0, 1) := dk_42 (dk_at dksX6_go_8 2 rfl rfl)
theorem dX6_go_187 : decode cX6_go 187 = .ok (.aload_n 0, 1) := dk_42 (dk_at dksX6_go_8 3 rfl rfl)
theorem dX6_go_188 : decode cX6_go 188 = .ok (.getfield 25, 3) := dk_180 0 25 (dk_at dksX6_go_8 4 rfl rfl)
theorem dX6_go_191 : decode cX6_go 191 = .ok (.invokevirtual 28, 3) := dk_182 0 28 (dk_at dksX6_go_8 7 rfl rfl)
theorem dX6_go_194 : decode cX6_go 194 = .ok (.invokestatic 38, 3) := dk_184 0 38 (dk_at dksX6_go_8 10 rfl rfl)
theorem dX6_go_197 : decode cX6_go 197 = .ok (.ifCond .ne 17, 3) := dk_154 0 17 (dk_at dksX6_go_8 13 rfl rfl)
theorem dX6_go_200 : decode cX6_go 200 = .ok (.aload_n 0, 1) := dk_42 (dk_at dksX6_go_8 16 rfl rfl)
theorem dX6_go_201 : decode cX6_go 201 = .ok (.aload_n 0, 1) := dk_42 (dk_at dksX6_go_8 17 rfl rfl)
theorem dX6_go_202 : decode cX6_go 202 = .ok (.getfield 25, 3) := dk_180 0 25 (dk_at dksX6_go_8 18 rfl rfl)
theorem dX6_go_205 : decode cX6_go 205 = .ok (.invokevirtual 28, 3) := dk_182 0 28 (dk_at dksX6_go_8 21 rfl rfl)
theorem dX6_go_208 : decode cX6_go 208 = .ok (.invokestatic 42, 3) := dk_184 0 42 (dk_at dksX6_go_9 0 rfl rfl)
theorem dX6_go_211 : decode cX6_go 211 = .ok (.ifCond .eq 106, 3) := dk_153 0 106 (dk_at dksX6_go_9 3 rfl rfl)
theorem dX6_go_214 : decode cX6_go 214 = .ok (.iload_n 3, 1) := dk_29 (dk_at dksX6_go_9 6 rfl rfl)
theorem dX6_go_215 : decode cX6_go 215 = .ok (.ifCond .eq 22, 3) := dk_153 0 22 (dk_at dksX6_go_9 7 rfl rfl)
theorem dX6_go_218 : decode cX6_go 218 = .ok (.aload_n 0, 1) := dk_42 (dk_at dksX6_go_9 10 rfl rfl)
theorem dX6_go_219 : decode cX6_go 219 = .ok (.aload_n 0, 1) := dk_42 (dk_at dksX6_go_9 11 rfl rfl)
theorem dX6_go_220 : decode cX6_go 220 = .ok (.getfield 25, 3) := dk_180 0 25 (dk_at dksX6_go_9 12 rfl rfl)
theorem dX6_go_223 : decode cX6_go 223 = .ok (.invokevirtual 28, 3) := dk_182 0 28 (dk_at dksX6_go_9 15 rfl rfl)
theorem dX6_go_226 : decode cX6_go 226 = .ok (.invokestatic 38, 3) := dk_184 0 38 (dk_at dksX6_go_9 18 rfl rfl)
theorem dX6_go_229 : decode cX6_go 229 = .ok (.iload_n 2, 1) := dk_28 (dk_at dksX6_go_9 21 rfl rfl)
theorem dX6_go_230 : decode cX6_go 230 = .ok (.if_icmp .ne 7, 3) := dk_160 0 7 (dk_at dksX6_go_10 0 rfl rfl)
theorem dX6_go_233 : decode cX6_go 233 = .ok (.iconst 1, 1) := dk_4 (dk_at dksX6_go_10 3 rfl rfl)
theorem dX6_go_234 : decode cX6_go 234 = .ok (.goto 4, 3) := dk_167 0 4 (dk_at dksX6_go_10 4 rfl rfl)
theorem dX6_go_237 : decode cX6_go 237 = .ok (.iconst 0, 1) := dk_3 (dk_at dksX6_go_10 7 rfl rfl)
theorem dX6_go_238 : decode cX6_go 238 = .ok (.istore_n 3, 1) := dk_62 (dk_at dksX6_go_10 8 rfl rfl)
theorem dX6_go_239 : decode cX6_go 239 = .ok (.aload_n 0, 1) := dk_42 (dk_at dksX6_go_10 9 rfl rfl)
theorem dX6_go_240 : decode cX6_go 240 = .ok (.getfield 25, 3) := dk_180 0 25 (dk_at dksX6_go_10 10 rfl rfl)
theorem dX6_go_243 : decode cX6_go 243 = .ok (.aload_n 0, 1) := dk_42 (dk_at dksX6_go_10 13 rfl rfl)
theorem dX6_go_244 : decode cX6_go 244 = .ok (.getfield 32, 3) := dk_180 0 32 (dk_at dksX6_go_10 14 rfl rfl)
theorem dX6_go_247 : decode cX6_go 247 = .ok (.isub, 1) := dk_100 (dk_at dksX6_go_10 17 rfl rfl)
theorem dX6_go_248 : decode cX6_go 248 = .ok (.bipush 6, 2) := dk_16 6 (dk_at dksX6_go_10 18 rfl rfl)
theorem dX6_go_250 : decode cX6_go 250 = .ok (.if_icmp .ge 18, 3) := dk_162 0 18 (dk_at dksX6_go_10 20 rfl rfl)
theorem dX6_go_253 : decode cX6_go 253 = .ok (.aload 4, 2) := dk_25 4 (dk_at dksX6_go_11 0 rfl rfl)
theorem dX6_go_255 : decode cX6_go 255 = .ok (.aload_n 0, 1) := dk_42 (dk_at dksX6_go_11 2 rfl rfl)
theorem dX6_go_256 : decode cX6_go 256 = .ok (.aload_n 0, 1) := dk_42 (dk_at dksX6_go_11 3 rfl rfl)
theorem dX6_go_257 : decode cX6_go 257 = .ok (.getfield 25, 3) := dk_180 0 25 (dk_at dksX6_go_11 4 rfl rfl)
theorem dX6_go_260 : decode cX6_go 260 = .ok (.invokevirtual 28, 3) := dk_182 0 28 (dk_at dksX6_go_11 7 rfl rfl)
theorem dX6_go_263 : decode cX6_go 263 = .ok (.i2c, 1) := dk_146 (dk_at dksX6_go_11 10 rfl rfl)
theorem dX6_go_264 : decode cX6_go 264 = .ok (.invokevirtual 61, 3) := dk_182 0 61 (dk_at dksX6_go_11 11 rfl rfl)
theorem dX6_go_267 : decode cX6_go 267 = .ok (.pop, 1) := dk_87 (dk_at dksX6_go_11 14 rfl rfl)
theorem dX6_go_268 : decode cX6_go 268 = .ok (.aload_n 0, 1) := dk_42 (dk_at dksX6_go_11 15 rfl rfl)
theorem dX6_go_269 : decode cX6_go 269 = .ok (.getfield 25, 3) := dk_180 0 25 (dk_at dksX6_go_11 16 rfl rfl)
theorem dX6_go_272 : decode cX6_go 272 = .ok (.aload_n 0, 1) := dk_42 (dk_at dksX6_go_11 19 rfl rfl)
theorem dX6_go_273 : decode cX6_go 273 = .ok (.getfield 32, 3) := dk_180 0 32 (dk_at dksX6_go_11 20 rfl rfl)
theorem dX6_go_276 : decode cX6_go 276 = .ok (.isub, 1) := dk_100 (dk_at dksX6_go_11 23 rfl rfl)
theorem dX6_go_277 : decode cX6_go 277 = .ok (.iconst 3, 1) := dk_6 (dk_at dksX6_go_12 0 rfl rfl)
theorem dX6_go_278 : decode cX6_go 278 = .ok (.if_icmp .ge 26, 3) := dk_162 0 26 (dk_at dksX6_go_12 1 rfl rfl)
theorem dX6_go_281 : decode cX6_go 281 = .ok (.aload_n 0, 1) := dk_42 (dk_at dksX6_go_12 4 rfl rfl)
theorem dX6_go_282 : decode cX6_go 282 = .ok (.bipush 10, 2) := dk_16 10 (dk_at dksX6_go_12 5 rfl rfl)
theorem dX6_go_284 : decode cX6_go 284 = .ok (.aload_n 0, 1) := dk_42 (dk_at dksX6_go_12 7 rfl rfl)
theorem dX6_go_285 : decode cX6_go 285 = .ok (.getfield 55, 3) := dk_180 0 55 (dk_at dksX6_go_12 8 rfl rfl)
theorem dX6_go_288 : decode cX6_go 288 = .ok (.imul, 1) := dk_104 (dk_at dksX6_go_12 11 rfl rfl)
theorem dX6_go_289 : decode cX6_go 289 = .ok (.aload_n 0, 1) := dk_42 (dk_at dksX6_go_12 12 rfl rfl)
theorem dX6_go_290 : decode cX6_go 290 = .ok (.aload_n 0, 1) := dk_42 (dk_at dksX6_go_12 13 rfl rfl)
theorem dX6_go_291 : decode cX6_go 291 = .ok (.getfield 25, 3) := dk_180 0 25 (dk_at dksX6_go_12 14 rfl rfl)
theorem dX6_go_294 : decode cX6_go 294 = .ok (.invokevirtual 28, 3) := dk_182 0 28 (dk_at dksX6_go_12 17 rfl rfl)
theorem dX6_go_297 : decode cX6_go 297 = .ok (.iadd, 1) := dk_96 (dk_at dksX6_go_12 20 rfl rfl)
theorem dX6_go_298 : decode cX6_go 298 = .ok (.bipush 48, 2) := dk_16 48 (dk_at dksX6_go_12 21 rfl rfl)
theorem dX6_go_300 : decode cX6_go 300 = .ok (.isub, 1) := dk_100 (dk_at dksX6_go_12 23 rfl rfl)
theorem dX6_go_301 : decode cX6_go 301 = .ok (.putfield 55, 3) := dk_181 0 55 (dk_at dksX6_go_13 0 rfl rfl)
theorem dX6_go_304 : decode cX6_go 304 = .ok (.aload_n 0, 1) := dk_42 (dk_at dksX6_go_13 3 rfl rfl)
theorem dX6_go_305 : decode cX6_go 305 = .ok (.dup, 1) := dk_89 (dk_at dksX6_go_13 4 rfl rfl)
theorem dX6_go_306 : decode cX6_go 306 = .ok (.getfield 25, 3) := dk_180 0 25 (dk_at dksX6_go_13 5 rfl rfl)
theorem dX6_go_309 : decode cX6_go 309 = .ok (.iconst 1, 1) := dk_4 (dk_at dksX6_go_13 8 rfl rfl)
theorem dX6_go_310 : decode cX6_go 310 = .ok (.iadd, 1) := dk_96 (dk_at dksX6_go_13 9 rfl rfl)
theorem dX6_go_311 : decode cX6_go 311 = .ok (.putfield 25, 3) := dk_181 0 25 (dk_at dksX6_go_13 10 rfl rfl)
theorem dX6_go_314 : decode cX6_go 314 = .ok (.goto (-128), 3) := dk_167 255 128 (dk_at dksX6_go_13 13 rfl rfl)
theorem dX6_go_317 : decode cX6_go 317 = .ok (.aload_n 0, 1) := dk_42 (dk_at dksX6_go_13 16 rfl rfl)
theorem dX6_go_318 : decode cX6_go 318 = .ok (.aload 4, 2) := dk_25 4 (dk_at dksX6_go_13 17 rfl rfl)
theorem dX6_go_320 : decode cX6_go 320 = .ok (.invokevirtual 65, 3) := dk_182 0 65 (dk_at dksX6_go_13 19 rfl rfl)
theorem dX6_go_323 : decode cX6_go 323 = .ok (.putfield 11, 3) := dk_181 0 11 (dk_at dksX6_go_14 0 rfl rfl)
theorem dX6_go_326 : decode cX6_go 326 = .ok (.aload_n 0, 1) := dk_42 (dk_at dksX6_go_14 3 rfl rfl)
theorem dX6_go_327 : decode cX6_go 327 = .ok (.iload_n 3, 1) := dk_29 (dk_at dksX6_go_14 4 rfl rfl)
theorem dX6_go_328 : decode cX6_go 328 = .ok (.ifCond .eq 25, 3) := dk_153 0 25 (dk_at dksX6_go_14 5 rfl rfl)
theorem dX6_go_331 : decode cX6_go 331 = .ok (.aload_n 0, 1) := dk_42 (dk_at dksX6_go_14 8 rfl rfl)
theorem dX6_go_332 : decode cX6_go 332 = .ok (.getfield 25, 3) := dk_180 0 25 (dk_at dksX6_go_14 9 rfl rfl)
theorem dX6_go_335 : decode cX6_go 335 = .ok (.aload_n 0, 1) := dk_42 (dk_at dksX6_go_14 12 rfl rfl)
theorem dX6_go_336 : decode cX6_go 336 = .ok (.getfield 32, 3) := dk_180 0 32 (dk_at dksX6_go_14 13 rfl rfl)
theorem dX6_go_339 : decode cX6_go 339 = .ok (.isub, 1) := dk_100 (dk_at dksX6_go_14 16 rfl rfl)
theorem dX6_go_340 : decode cX6_go 340 = .ok (.iload_n 2, 1) := dk_28 (dk_at dksX6_go_14 17 rfl rfl)
theorem dX6_go_341 : decode cX6_go 341 = .ok (.ifCond .eq 8, 3) := dk_153 0 8 (dk_at dksX6_go_14 18 rfl rfl)
theorem dX6_go_344 : decode cX6_go 344 = .ok (.bipush 6, 2) := dk_16 6 (dk_at dksX6_go_14 21 rfl rfl)
theorem dX6_go_346 : decode cX6_go 346 = .ok (.goto 4, 3) := dk_167 0 4 (dk_at dksX6_go_15 0 rfl rfl)
theorem dX6_go_349 : decode cX6_go 349 = .ok (.iconst 3, 1) := dk_6 (dk_at dksX6_go_15 3 rfl rfl)
theorem dX6_go_350 : decode cX6_go 350 = .ok (.if_icmp .le 7, 3) := dk_164 0 7 (dk_at dksX6_go_15 4 rfl rfl)
theorem dX6_go_353 : decode cX6_go 353 = .ok (.iconst 1, 1) := dk_4 (dk_at dksX6_go_15 7 rfl rfl)
theorem dX6_go_354 : decode cX6_go 354 = .ok (.goto 12, 3) := dk_167 0 12 (dk_at dksX6_go_15 8 rfl rfl)
theorem dX6_go_357 : decode cX6_go 357 = .ok (.iload_n 2, 1) := dk_28 (dk_at dksX6_go_15 11 rfl rfl)
theorem dX6_go_358 : decode cX6_go 358 = .ok (.ifCond .eq 7, 3) := dk_153 0 7 (dk_at dksX6_go_15 12 rfl rfl)
theorem dX6_go_361 : decode cX6_go 361 = .ok (.iconst 2, 1) := dk_5 (dk_at dksX6_go_15 15 rfl rfl)
theorem dX6_go_362 : decode cX6_go 362 = .ok (.goto 4, 3) := dk_167 0 4 (dk_at dksX6_go_15 16 rfl rfl)
theorem dX6_go_365 : decode cX6_go 365 = .ok (.iconst 3, 1) := dk_6 (dk_at dksX6_go_15 19 rfl rfl)
theorem dX6_go_366 : decode cX6_go 366 = .ok (.putfield 35, 3) := dk_181 0 35 (dk_at dksX6_go_15 20 rfl rfl)
theorem dX6_go_369 : decode cX6_go 369 = .ok (.return_, 1) := dk_177 (dk_at dksX6_go_15 23 rfl rfl)
abbrev cX6_byteAt : ByteArray := prog_8_method_2_code
def yX6_byteAt : MethodName := ⟨RX6, "byteAt", "(I)I"⟩
def dkwX6_byteAt_0 : List UInt8 := [27, 42, 180, 0, 21, 162, 0, 16, 42, 180, 0, 17, 27, 51, 17, 0, 255, 126, 167, 0, 4, 3, 172]
abbrev dktX6_byteAt_0 : List UInt8 := dkwX6_byteAt_0 ++ []
theorem dksX6_byteAt_0 : cX6_byteAt.data.toList.drop 0 = dktX6_byteAt_0 := by decide +kernel
theorem dX6_byteAt_0 : decode cX6_byteAt 0 = .ok (.iload_n 1, 1) := dk_27 (dk_at dksX6_byteAt_0 0 rfl rfl)
theorem dX6_byteAt_1 : decode cX6_byteAt 1 = .ok (.aload_n 0, 1) := dk_42 (dk_at dksX6_byteAt_0 1 rfl rfl)
theorem dX6_byteAt_2 : decode cX6_byteAt 2 = .ok (.getfield 21, 3) := dk_180 0 21 (dk_at dksX6_byteAt_0 2 rfl rfl)
theorem dX6_byteAt_5 : decode cX6_byteAt 5 = .ok (.if_icmp .ge 16, 3) := dk_162 0 16 (dk_at dksX6_byteAt_0 5 rfl rfl)
theorem dX6_byteAt_8 : decode cX6_byteAt 8 = .ok (.aload_n 0, 1) := dk_42 (dk_at dksX6_byteAt_0 8 rfl rfl)
theorem dX6_byteAt_9 : decode cX6_byteAt 9 = .ok (.getfield 17, 3) := dk_180 0 17 (dk_at dksX6_byteAt_0 9 rfl rfl)
theorem dX6_byteAt_12 : decode cX6_byteAt 12 = .ok (.iload_n 1, 1) := dk_27 (dk_at dksX6_byteAt_0 12 rfl rfl)
theorem dX6_byteAt_13 : decode cX6_byteAt 13 = .ok (.baload, 1) := dk_51 (dk_at dksX6_byteAt_0 13 rfl rfl)
theorem dX6_byteAt_14 : decode cX6_byteAt 14 = .ok (.sipush 255, 3) := dk_17 0 255 (dk_at dksX6_byteAt_0 14 rfl rfl)
theorem dX6_byteAt_17 : decode cX6_byteAt 17 = .ok (.iand, 1) := dk_126 (dk_at dksX6_byteAt_0 17 rfl rfl)
theorem dX6_byteAt_18 : decode cX6_byteAt 18 = .ok (.goto 4, 3) := dk_167 0 4 (dk_at dksX6_byteAt_0 18 rfl rfl)
theorem dX6_byteAt_21 : decode cX6_byteAt 21 = .ok (.iconst 0, 1) := dk_3 (dk_at dksX6_byteAt_0 21 rfl rfl)
theorem dX6_byteAt_22 : decode cX6_byteAt 22 = .ok (.ireturn, 1) := dk_172 (dk_at dksX6_byteAt_0 22 rfl rfl)
abbrev cX6_isLetter : ByteArray := prog_8_method_4_code
def yX6_isLetter : MethodName := ⟨RX6, "isLetter", "(I)Z"⟩
def dkwX6_isLetter_0 : List UInt8 := [26, 16, 97, 161, 0, 13, 26, 16, 122, 163, 0, 7, 4, 167, 0, 4, 3, 172]
abbrev dktX6_isLetter_0 : List UInt8 := dkwX6_isLetter_0 ++ []
theorem dksX6_isLetter_0 : cX6_isLetter.data.toList.drop 0 = dktX6_isLetter_0 := by decide +kernel
theorem dX6_isLetter_0 : decode cX6_isLetter 0 = .ok (.iload_n 0, 1) := dk_26 (dk_at dksX6_isLetter_0 0 rfl rfl)
theorem dX6_isLetter_1 : decode cX6_isLetter 1 = .ok (.bipush 97, 2) := dk_16 97 (dk_at dksX6_isLetter_0 1 rfl rfl)
theorem dX6_isLetter_3 : decode cX6_isLetter 3 = .ok (.if_icmp .lt 13, 3) := dk_161 0 13 (dk_at dksX6_isLetter_0 3 rfl rfl)
theorem dX6_isLetter_6 : decode cX6_isLetter 6 = .ok (.iload_n 0, 1) := dk_26 (dk_at dksX6_isLetter_0 6 rfl rfl)
theorem dX6_isLetter_7 : decode cX6_isLetter 7 = .ok (.bipush 122, 2) := dk_16 122 (dk_at dksX6_isLetter_0 7 rfl rfl)
theorem dX6_isLetter_9 : decode cX6_isLetter 9 = .ok (.if_icmp .gt 7, 3) := dk_163 0 7 (dk_at dksX6_isLetter_0 9 rfl rfl)
theorem dX6_isLetter_12 : decode cX6_isLetter 12 = .ok (.iconst 1, 1) := dk_4 (dk_at dksX6_isLetter_0 12 rfl rfl)
theorem dX6_isLetter_13 : decode cX6_isLetter 13 = .ok (.goto 4, 3) := dk_167 0 4 (dk_at dksX6_isLetter_0 13 rfl rfl)
theorem dX6_isLetter_16 : decode cX6_isLetter 16 = .ok (.iconst 0, 1) := dk_3 (dk_at dksX6_isLetter_0 16 rfl rfl)
theorem dX6_isLetter_17 : decode cX6_isLetter 17 = .ok (.ireturn, 1) := dk_172 (dk_at dksX6_isLetter_0 17 rfl rfl)
abbrev cX6_isDigit : ByteArray := prog_8_method_3_code
def yX6_isDigit : MethodName := ⟨RX6, "isDigit", "(I)Z"⟩
def dkwX6_isDigit_0 : List UInt8 := [26, 16, 48, 161, 0, 13, 26, 16, 57, 163, 0, 7, 4, 167, 0, 4, 3, 172]
abbrev dktX6_isDigit_0 : List UInt8 := dkwX6_isDigit_0 ++ []
theorem dksX6_isDigit_0 : cX6_isDigit.data.toList.drop 0 = dktX6_isDigit_0 := by decide +kernel
theorem dX6_isDigit_0 : decode cX6_isDigit 0 = .ok (.iload_n 0, 1) := dk_26 (dk_at dksX6_isDigit_0 0 rfl rfl)
theorem dX6_isDigit_1 : decode cX6_isDigit 1 = .ok (.bipush 48, 2) := dk_16 48 (dk_at dksX6_isDigit_0 1 rfl rfl)
theorem dX6_isDigit_3 : decode cX6_isDigit 3 = .ok (.if_icmp .lt 13, 3) := dk_161 0 13 (dk_at dksX6_isDigit_0 3 rfl rfl)
theorem dX6_isDigit_6 : decode cX6_isDigit 6 = .ok (.iload_n 0, 1) := dk_26 (dk_at dksX6_isDigit_0 6 rfl rfl)
theorem dX6_isDigit_7 : decode cX6_isDigit 7 = .ok (.bipush 57, 2) := dk_16 57 (dk_at dksX6_isDigit_0 7 rfl rfl)
theorem dX6_isDigit_9 : decode cX6_isDigit 9 = .ok (.if_icmp .gt 7, 3) := dk_163 0 7 (dk_at dksX6_isDigit_0 9 rfl rfl)
theorem dX6_isDigit_12 : decode cX6_isDigit 12 = .ok (.iconst 1, 1) := dk_4 (dk_at dksX6_isDigit_0 12 rfl rfl)
theorem dX6_isDigit_13 : decode cX6_isDigit 13 = .ok (.goto 4, 3) := dk_167 0 4 (dk_at dksX6_isDigit_0 13 rfl rfl)
theorem dX6_isDigit_16 : decode cX6_isDigit 16 = .ok (.iconst 0, 1) := dk_3 (dk_at dksX6_isDigit_0 16 rfl rfl)
theorem dX6_isDigit_17 : decode cX6_isDigit 17 = .ok (.ireturn, 1) := dk_172 (dk_at dksX6_isDigit_0 17 rfl rfl)
abbrev cX6_among : ByteArray := prog_8_method_11_code
def yX6_among : MethodName := ⟨RX6, "among", "(Ljava/lang/String;)I"⟩
def dkwX6_among_3 : List UInt8 := [172]
abbrev dktX6_among_3 : List UInt8 := dkwX6_among_3 ++ []
def dkwX6_among_2 : List UInt8 := [180, 0, 11, 28, 182, 0, 99, 153, 0, 5, 29, 172, 21, 4, 4, 96, 61, 132, 3, 1, 167, 255, 203, 2]
abbrev dktX6_among_2 : List UInt8 := dkwX6_among_2 ++ dktX6_among_3
def dkwX6_among_1 : List UInt8 := [16, 32, 28, 182, 0, 96, 54, 4, 42, 180, 0, 11, 182, 0, 92, 21, 4, 28, 100, 160, 0, 17, 43, 42]
abbrev dktX6_among_1 : List UInt8 := dkwX6_among_1 ++ dktX6_among_2
def dkwX6_among_0 : List UInt8 := [42, 180, 0, 35, 5, 159, 0, 5, 2, 172, 3, 61, 3, 62, 28, 43, 182, 0, 92, 162, 0, 51, 43]
abbrev dktX6_among_0 : List UInt8 := dkwX6_among_0 ++ dktX6_among_1
theorem dksX6_among_0 : cX6_among.data.toList.drop 0 = dktX6_among_0 := by decide +kernel
theorem dksX6_among_1 : cX6_among.data.toList.drop 23 = dktX6_among_1 := dk_seg dksX6_among_0 23 rfl rfl
theorem dksX6_among_2 : cX6_among.data.toList.drop 47 = dktX6_among_2 := dk_seg dksX6_among_1 24 rfl rfl
theorem dksX6_among_3 : cX6_among.data.toList.drop 71 = dktX6_among_3 := dk_seg dksX6_among_2 24 rfl rfl
theorem dX6_among_0 : decode cX6_among 0 = .ok (.aload_n 0, 1) := dk_42 (dk_at dksX6_among_0 0 rfl rfl)
theorem dX6_among_1 : decode cX6_among 1 = .ok (.getfield 35, 3) := dk_180 0 35 (dk_at dksX6_among_0 1 rfl rfl)
theorem dX6_among_4 : decode cX6_among 4 = .ok (.iconst 2, 1) := dk_5 (dk_at dksX6_among_0 4 rfl rfl)
theorem dX6_among_5 : decode cX6_among 5 = .ok (.if_icmp .eq 5, 3) := dk_159 0 5 (dk_at dksX6_among_0 5 rfl rfl)
theorem dX6_among_8 : decode cX6_among 8 = .ok (.iconst (-1), 1) := dk_2 (dk_at dksX6_among_0 8 rfl rfl)
theorem dX6_among_9 : decode cX6_among 9 = .ok (.ireturn, 1) := dk_172 (dk_at dksX6_among_0 9 rfl rfl)
theorem dX6_among_10 : decode cX6_among 10 = .ok (.iconst 0, 1) := dk_3 (dk_at dksX6_among_0 10 rfl rfl)
theorem dX6_among_11 : decode cX6_among 11 = .ok (.istore_n 2, 1) := dk_61 (dk_at dksX6_among_0 11 rfl rfl)
theorem dX6_among_12 : decode cX6_among 12 = .ok (.iconst 0, 1) := dk_3 (dk_at dksX6_among_0 12 rfl rfl)
theorem dX6_among_13 : decode cX6_among 13 = .ok (.istore_n 3, 1) := dk_62 (dk_at dksX6_among_0 13 rfl rfl)
theorem dX6_among_14 : decode cX6_among 14 = .ok (.iload_n 2, 1) := dk_28 (dk_at dksX6_among_0 14 rfl rfl)
theorem dX6_among_15 : decode cX6_among 15 = .ok (.aload_n 1, 1) := dk_43 (dk_at dksX6_among_0 15 rfl rfl)
theorem dX6_among_16 : decode cX6_among 16 = .ok (.invokevirtual 92, 3) := dk_182 0 92 (dk_at dksX6_among_0 16 rfl rfl)
theorem dX6_among_19 : decode cX6_among 19 = .ok (.if_icmp .ge 51, 3) := dk_162 0 51 (dk_at dksX6_among_0 19 rfl rfl)
theorem dX6_among_22 : decode cX6_among 22 = .ok (.aload_n 1, 1) := dk_43 (dk_at dksX6_among_0 22 rfl rfl)
theorem dX6_among_23 : decode cX6_among 23 = .ok (.bipush 32, 2) := dk_16 32 (dk_at dksX6_among_1 0 rfl rfl)
theorem dX6_among_25 : decode cX6_among 25 = .ok (.iload_n 2, 1) := dk_28 (dk_at dksX6_among_1 2 rfl rfl)
theorem dX6_among_26 : decode cX6_among 26 = .ok (.invokevirtual 96, 3) := dk_182 0 96 (dk_at dksX6_among_1 3 rfl rfl)
theorem dX6_among_29 : decode cX6_among 29 = .ok (.istore 4, 2) := dk_54 4 (dk_at dksX6_among_1 6 rfl rfl)
theorem dX6_among_31 : decode cX6_among 31 = .ok (.aload_n 0, 1) := dk_42 (dk_at dksX6_among_1 8 rfl rfl)
theorem dX6_among_32 : decode cX6_among 32 = .ok (.getfield 11, 3) := dk_180 0 11 (dk_at dksX6_among_1 9 rfl rfl)
theorem dX6_among_35 : decode cX6_among 35 = .ok (.invokevirtual 92, 3) := dk_182 0 92 (dk_at dksX6_among_1 12 rfl rfl)
theorem dX6_among_38 : decode cX6_among 38 = .ok (.iload 4, 2) := dk_21 4 (dk_at dksX6_among_1 15 rfl rfl)
theorem dX6_among_40 : decode cX6_among 40 = .ok (.iload_n 2, 1) := dk_28 (dk_at dksX6_among_1 17 rfl rfl)
theorem dX6_among_41 : decode cX6_among 41 = .ok (.isub, 1) := dk_100 (dk_at dksX6_among_1 18 rfl rfl)
theorem dX6_among_42 : decode cX6_among 42 = .ok (.if_icmp .ne 17, 3) := dk_160 0 17 (dk_at dksX6_among_1 19 rfl rfl)
theorem dX6_among_45 : decode cX6_among 45 = .ok (.aload_n 1, 1) := dk_43 (dk_at dksX6_among_1 22 rfl rfl)
theorem dX6_among_46 : decode cX6_among 46 = .ok (.aload_n 0, 1) := dk_42 (dk_at dksX6_among_1 23 rfl rfl)
theorem dX6_among_47 : decode cX6_among 47 = .ok (.getfield 11, 3) := dk_180 0 11 (dk_at dksX6_among_2 0 rfl rfl)
theorem dX6_among_50 : decode cX6_among 50 = .ok (.iload_n 2, 1) := dk_28 (dk_at dksX6_among_2 3 rfl rfl)
theorem dX6_among_51 : decode cX6_among 51 = .ok (.invokevirtual 99, 3) := dk_182 0 99 (dk_at dksX6_among_2 4 rfl rfl)
theorem dX6_among_54 : decode cX6_among 54 = .ok (.ifCond .eq 5, 3) := dk_153 0 5 (dk_at dksX6_among_2 7 rfl rfl)
theorem dX6_among_57 : decode cX6_among 57 = .ok (.iload_n 3, 1) := dk_29 (dk_at dksX6_among_2 10 rfl rfl)
theorem dX6_among_58 : decode cX6_among 58 = .ok (.ireturn, 1) := dk_172 (dk_at dksX6_among_2 11 rfl rfl)
theorem dX6_among_59 : decode cX6_among 59 = .ok (.iload 4, 2) := dk_21 4 (dk_at dksX6_among_2 12 rfl rfl)
theorem dX6_among_61 : decode cX6_among 61 = .ok (.iconst 1, 1) := dk_4 (dk_at dksX6_among_2 14 rfl rfl)
theorem dX6_among_62 : decode cX6_among 62 = .ok (.iadd, 1) := dk_96 (dk_at dksX6_among_2 15 rfl rfl)
theorem dX6_among_63 : decode cX6_among 63 = .ok (.istore_n 2, 1) := dk_61 (dk_at dksX6_among_2 16 rfl rfl)
theorem dX6_among_64 : decode cX6_among 64 = .ok (.iinc 3 1, 3) := dk_132 3 1 (dk_at dksX6_among_2 17 rfl rfl)
theorem dX6_among_67 : decode cX6_among 67 = .ok (.goto (-53), 3) := dk_167 255 203 (dk_at dksX6_among_2 20 rfl rfl)
theorem dX6_among_70 : decode cX6_among 70 = .ok (.iconst (-1), 1) := dk_2 (dk_at dksX6_among_2 23 rfl rfl)
theorem dX6_among_71 : decode cX6_among 71 = .ok (.ireturn, 1) := dk_172 (dk_at dksX6_among_3 0 rfl rfl)
abbrev cX6_is : ByteArray := prog_8_method_7_code
def yX6_is : MethodName := ⟨RX6, "is", "(Ljava/lang/String;)Z"⟩
def dkwX6_is_1 : List UInt8 := [172]
abbrev dktX6_is_1 : List UInt8 := dkwX6_is_1 ++ []
def dkwX6_is_0 : List UInt8 := [42, 180, 0, 35, 5, 160, 0, 18, 42, 180, 0, 11, 43, 182, 0, 74, 153, 0, 7, 4, 167, 0, 4, 3]
abbrev dktX6_is_0 : List UInt8 := dkwX6_is_0 ++ dktX6_is_1
theorem dksX6_is_0 : cX6_is.data.toList.drop 0 = dktX6_is_0 := by decide +kernel
theorem dksX6_is_1 : cX6_is.data.toList.drop 24 = dktX6_is_1 := dk_seg dksX6_is_0 24 rfl rfl
theorem dX6_is_0 : decode cX6_is 0 = .ok (.aload_n 0, 1) := dk_42 (dk_at dksX6_is_0 0 rfl rfl)
theorem dX6_is_1 : decode cX6_is 1 = .ok (.getfield 35, 3) := dk_180 0 35 (dk_at dksX6_is_0 1 rfl rfl)
theorem dX6_is_4 : decode cX6_is 4 = .ok (.iconst 2, 1) := dk_5 (dk_at dksX6_is_0 4 rfl rfl)
theorem dX6_is_5 : decode cX6_is 5 = .ok (.if_icmp .ne 18, 3) := dk_160 0 18 (dk_at dksX6_is_0 5 rfl rfl)
theorem dX6_is_8 : decode cX6_is 8 = .ok (.aload_n 0, 1) := dk_42 (dk_at dksX6_is_0 8 rfl rfl)
theorem dX6_is_9 : decode cX6_is 9 = .ok (.getfield 11, 3) := dk_180 0 11 (dk_at dksX6_is_0 9 rfl rfl)
theorem dX6_is_12 : decode cX6_is 12 = .ok (.aload_n 1, 1) := dk_43 (dk_at dksX6_is_0 12 rfl rfl)
theorem dX6_is_13 : decode cX6_is 13 = .ok (.invokevirtual 74, 3) := dk_182 0 74 (dk_at dksX6_is_0 13 rfl rfl)
theorem dX6_is_16 : decode cX6_is 16 = .ok (.ifCond .eq 7, 3) := dk_153 0 7 (dk_at dksX6_is_0 16 rfl rfl)
theorem dX6_is_19 : decode cX6_is 19 = .ok (.iconst 1, 1) := dk_4 (dk_at dksX6_is_0 19 rfl rfl)
theorem dX6_is_20 : decode cX6_is 20 = .ok (.goto 4, 3) := dk_167 0 4 (dk_at dksX6_is_0 20 rfl rfl)
theorem dX6_is_23 : decode cX6_is 23 = .ok (.iconst 0, 1) := dk_3 (dk_at dksX6_is_0 23 rfl rfl)
theorem dX6_is_24 : decode cX6_is 24 = .ok (.ireturn, 1) := dk_172 (dk_at dksX6_is_1 0 rfl rfl)
abbrev cX6_need : ByteArray := prog_8_method_6_code
def yX6_need : MethodName := ⟨RX6, "need", "(ZI)V"⟩
def dkwX6_need_1 : List UInt8 := [4, 167, 0, 4, 28, 42, 180, 0, 32, 183, 0, 71, 191, 177]
abbrev dktX6_need_1 : List UInt8 := dkwX6_need_1 ++ []
def dkwX6_need_0 : List UInt8 := [27, 154, 0, 36, 187, 0, 69, 89, 42, 180, 0, 35, 4, 159, 0, 11, 42, 180, 0, 35, 8, 160, 0, 7]
abbrev dktX6_need_0 : List UInt8 := dkwX6_need_0 ++ dktX6_need_1
theorem dksX6_need_0 : cX6_need.data.toList.drop 0 = dktX6_need_0 := by decide +kernel
theorem dksX6_need_1 : cX6_need.data.toList.drop 24 = dktX6_need_1 := dk_seg dksX6_need_0 24 rfl rfl
theorem dX6_need_0 : decode cX6_need 0 = .ok (.iload_n 1, 1) := dk_27 (dk_at dksX6_need_0 0 rfl rfl)
theorem dX6_need_1 : decode cX6_need 1 = .ok (.ifCond .ne 36, 3) := dk_154 0 36 (dk_at dksX6_need_0 1 rfl rfl)
theorem dX6_need_4 : decode cX6_need 4 = .ok (.new 69, 3) := dk_187 0 69 (dk_at dksX6_need_0 4 rfl rfl)
theorem dX6_need_7 : decode cX6_need 7 = .ok (.dup, 1) := dk_89 (dk_at dksX6_need_0 7 rfl rfl)
theorem dX6_need_8 : decode cX6_need 8 = .ok (.aload_n 0, 1) := dk_42 (dk_at dksX6_need_0 8 rfl rfl)
theorem dX6_need_9 : decode cX6_need 9 = .ok (.getfield 35, 3) := dk_180 0 35 (dk_at dksX6_need_0 9 rfl rfl)
theorem dX6_need_12 : decode cX6_need 12 = .ok (.iconst 1, 1) := dk_4 (dk_at dksX6_need_0 12 rfl rfl)
theorem dX6_need_13 : decode cX6_need 13 = .ok (.if_icmp .eq 11, 3) := dk_159 0 11 (dk_at dksX6_need_0 13 rfl rfl)
theorem dX6_need_16 : decode cX6_need 16 = .ok (.aload_n 0, 1) := dk_42 (dk_at dksX6_need_0 16 rfl rfl)
theorem dX6_need_17 : decode cX6_need 17 = .ok (.getfield 35, 3) := dk_180 0 35 (dk_at dksX6_need_0 17 rfl rfl)
theorem dX6_need_20 : decode cX6_need 20 = .ok (.iconst 5, 1) := dk_8 (dk_at dksX6_need_0 20 rfl rfl)
theorem dX6_need_21 : decode cX6_need 21 = .ok (.if_icmp .ne 7, 3) := dk_160 0 7 (dk_at dksX6_need_0 21 rfl rfl)
theorem dX6_need_24 : decode cX6_need 24 = .ok (.iconst 1, 1) := dk_4 (dk_at dksX6_need_1 0 rfl rfl)
theorem dX6_need_25 : decode cX6_need 25 = .ok (.goto 4, 3) := dk_167 0 4 (dk_at dksX6_need_1 1 rfl rfl)
theorem dX6_need_28 : decode cX6_need 28 = .ok (.iload_n 2, 1) := dk_28 (dk_at dksX6_need_1 4 rfl rfl)
theorem dX6_need_29 : decode cX6_need 29 = .ok (.aload_n 0, 1) := dk_42 (dk_at dksX6_need_1 5 rfl rfl)
theorem dX6_need_30 : decode cX6_need 30 = .ok (.getfield 32, 3) := dk_180 0 32 (dk_at dksX6_need_1 6 rfl rfl)
theorem dX6_need_33 : decode cX6_need 33 = .ok (.invokespecial 71, 3) := dk_183 0 71 (dk_at dksX6_need_1 9 rfl rfl)
theorem dX6_need_36 : decode cX6_need 36 = .ok (.athrow, 1) := dk_191 (dk_at dksX6_need_1 12 rfl rfl)
theorem dX6_need_37 : decode cX6_need 37 = .ok (.return_, 1) := dk_177 (dk_at dksX6_need_1 13 rfl rfl)
abbrev cX6_line : ByteArray := prog_8_method_12_code
def yX6_line : MethodName := ⟨RX6, "line", "(I)V"⟩
def dkwX6_line_2 : List UInt8 := [159, 0, 15, 42, 89, 180, 0, 106, 4, 27, 120, 128, 181, 0, 106, 42, 182, 0, 86, 177]
abbrev dktX6_line_2 : List UInt8 := dkwX6_line_2 ++ []
def dkwX6_line_1 : List UInt8 := [154, 0, 7, 4, 167, 0, 4, 3, 6, 182, 0, 78, 42, 89, 180, 0, 103, 4, 96, 181, 0, 103, 27, 2]
abbrev dktX6_line_1 : List UInt8 := dkwX6_line_1 ++ dktX6_line_2
def dkwX6_line_0 : List UInt8 := [42, 42, 180, 0, 103, 16, 16, 162, 0, 23, 27, 2, 159, 0, 14, 42, 180, 0, 106, 27, 122, 4, 126]
abbrev dktX6_line_0 : List UInt8 := dkwX6_line_0 ++ dktX6_line_1
theorem dksX6_line_0 : cX6_line.data.toList.drop 0 = dktX6_line_0 := by decide +kernel
theorem dksX6_line_1 : cX6_line.data.toList.drop 23 = dktX6_line_1 := dk_seg dksX6_line_0 23 rfl rfl
theorem dksX6_line_2 : cX6_line.data.toList.drop 47 = dktX6_line_2 := dk_seg dksX6_line_1 24 rfl rfl
theorem dX6_line_0 : decode cX6_line 0 = .ok (.aload_n 0, 1) := dk_42 (dk_at dksX6_line_0 0 rfl rfl)
theorem dX6_line_1 : decode cX6_line 1 = .ok (.aload_n 0, 1) := dk_42 (dk_at dksX6_line_0 1 rfl rfl)
theorem dX6_line_2 : decode cX6_line 2 = .ok (.getfield 103, 3) := dk_180 0 103 (dk_at dksX6_line_0 2 rfl rfl)
theorem dX6_line_5 : decode cX6_line 5 = .ok (.bipush 16, 2) := dk_16 16 (dk_at dksX6_line_0 5 rfl rfl)
theorem dX6_line_7 : decode cX6_line 7 = .ok (.if_icmp .ge 23, 3) := dk_162 0 23 (dk_at dksX6_line_0 7 rfl rfl)
theorem dX6_line_10 : decode cX6_line 10 = .ok (.iload_n 1, 1) := dk_27 (dk_at dksX6_line_0 10 rfl rfl)
theorem dX6_line_11 : decode cX6_line 11 = .ok (.iconst (-1), 1) := dk_2 (dk_at dksX6_line_0 11 rfl rfl)
theorem dX6_line_12 : decode cX6_line 12 = .ok (.if_icmp .eq 14, 3) := dk_159 0 14 (dk_at dksX6_line_0 12 rfl rfl)
theorem dX6_line_15 : decode cX6_line 15 = .ok (.aload_n 0, 1) := dk_42 (dk_at dksX6_line_0 15 rfl rfl)
theorem dX6_line_16 : decode cX6_line 16 = .ok (.getfield 106, 3) := dk_180 0 106 (dk_at dksX6_line_0 16 rfl rfl)
theorem dX6_line_19 : decode cX6_line 19 = .ok (.iload_n 1, 1) := dk_27 (dk_at dksX6_line_0 19 rfl rfl)
theorem dX6_line_20 : decode cX6_line 20 = .ok (.ishr, 1) := dk_122 (dk_at dksX6_line_0 20 rfl rfl)
theorem dX6_line_21 : decode cX6_line 21 = .ok (.iconst 1, 1) := dk_4 (dk_at dksX6_line_0 21 rfl rfl)
theorem dX6_line_22 : decode cX6_line 22 = .ok (.iand, 1) := dk_126 (dk_at dksX6_line_0 22 rfl rfl)
theorem dX6_line_23 : decode cX6_line 23 = .ok (.ifCond .ne 7, 3) := dk_154 0 7 (dk_at dksX6_line_1 0 rfl rfl)
theorem dX6_line_26 : decode cX6_line 26 = .ok (.iconst 1, 1) := dk_4 (dk_at dksX6_line_1 3 rfl rfl)
theorem dX6_line_27 : decode cX6_line 27 = .ok (.goto 4, 3) := dk_167 0 4 (dk_at dksX6_line_1 4 rfl rfl)
theorem dX6_line_30 : decode cX6_line 30 = .ok (.iconst 0, 1) := dk_3 (dk_at dksX6_line_1 7 rfl rfl)
theorem dX6_line_31 : decode cX6_line 31 = .ok (.iconst 3, 1) := dk_6 (dk_at dksX6_line_1 8 rfl rfl)
theorem dX6_line_32 : decode cX6_line 32 = .ok (.invokevirtual 78, 3) := dk_182 0 78 (dk_at dksX6_line_1 9 rfl rfl)
theorem dX6_line_35 : decode cX6_line 35 = .ok (.aload_n 0, 1) := dk_42 (dk_at dksX6_line_1 12 rfl rfl)
theorem dX6_line_36 : decode cX6_line 36 = .ok (.dup, 1) := dk_89 (dk_at dksX6_line_1 13 rfl rfl)
theorem dX6_line_37 : decode cX6_line 37 = .ok (.getfield 103, 3) := dk_180 0 103 (dk_at dksX6_line_1 14 rfl rfl)
theorem dX6_line_40 : decode cX6_line 40 = .ok (.iconst 1, 1) := dk_4 (dk_at dksX6_line_1 17 rfl rfl)
theorem dX6_line_41 : decode cX6_line 41 = .ok (.iadd, 1) := dk_96 (dk_at dksX6_line_1 18 rfl rfl)
theorem dX6_line_42 : decode cX6_line 42 = .ok (.putfield 103, 3) := dk_181 0 103 (dk_at dksX6_line_1 19 rfl rfl)
theorem dX6_line_45 : decode cX6_line 45 = .ok (.iload_n 1, 1) := dk_27 (dk_at dksX6_line_1 22 rfl rfl)
theorem dX6_line_46 : decode cX6_line 46 = .ok (.iconst (-1), 1) := dk_2 (dk_at dksX6_line_1 23 rfl rfl)
theorem dX6_line_47 : decode cX6_line 47 = .ok (.if_icmp .eq 15, 3) := dk_159 0 15 (dk_at dksX6_line_2 0 rfl rfl)
theorem dX6_line_50 : decode cX6_line 50 = .ok (.aload_n 0, 1) := dk_42 (dk_at dksX6_line_2 3 rfl rfl)
theorem dX6_line_51 : decode cX6_line 51 = .ok (.dup, 1) := dk_89 (dk_at dksX6_line_2 4 rfl rfl)
theorem dX6_line_52 : decode cX6_line 52 = .ok (.getfield 106, 3) := dk_180 0 106 (dk_at dksX6_line_2 5 rfl rfl)
theorem dX6_line_55 : decode cX6_line 55 = .ok (.iconst 1, 1) := dk_4 (dk_at dksX6_line_2 8 rfl rfl)
theorem dX6_line_56 : decode cX6_line 56 = .ok (.iload_n 1, 1) := dk_27 (dk_at dksX6_line_2 9 rfl rfl)
theorem dX6_line_57 : decode cX6_line 57 = .ok (.ishl, 1) := dk_120 (dk_at dksX6_line_2 10 rfl rfl)
theorem dX6_line_58 : decode cX6_line 58 = .ok (.ior, 1) := dk_128 (dk_at dksX6_line_2 11 rfl rfl)
theorem dX6_line_59 : decode cX6_line 59 = .ok (.putfield 106, 3) := dk_181 0 106 (dk_at dksX6_line_2 12 rfl rfl)
theorem dX6_line_62 : decode cX6_line 62 = .ok (.aload_n 0, 1) := dk_42 (dk_at dksX6_line_2 15 rfl rfl)
theorem dX6_line_63 : decode cX6_line 63 = .ok (.invokevirtual 86, 3) := dk_182 0 86 (dk_at dksX6_line_2 16 rfl rfl)
theorem dX6_line_66 : decode cX6_line 66 = .ok (.return_, 1) := dk_177 (dk_at dksX6_line_2 19 rfl rfl)
abbrev cX6_number : ByteArray := prog_8_method_9_code
def yX6_number : MethodName := ⟨RX6, "number", "(II)I"⟩
def dkwX6_number_1 : List UInt8 := [28, 184, 0, 82, 5, 182, 0, 78, 42, 180, 0, 55, 62, 42, 182, 0, 86, 29, 172]
abbrev dktX6_number_1 : List UInt8 := dkwX6_number_1 ++ []
def dkwX6_number_0 : List UInt8 := [42, 42, 180, 0, 35, 6, 160, 0, 7, 4, 167, 0, 4, 3, 4, 182, 0, 78, 42, 42, 180, 0, 55, 27]
abbrev dktX6_number_0 : List UInt8 := dkwX6_number_0 ++ dktX6_number_1
theorem dksX6_number_0 : cX6_number.data.toList.drop 0 = dktX6_number_0 := by decide +kernel
theorem dksX6_number_1 : cX6_number.data.toList.drop 24 = dktX6_number_1 := dk_seg dksX6_number_0 24 rfl rfl
theorem dX6_number_0 : decode cX6_number 0 = .ok (.aload_n 0, 1) := dk_42 (dk_at dksX6_number_0 0 rfl rfl)
theorem dX6_number_1 : decode cX6_number 1 = .ok (.aload_n 0, 1) := dk_42 (dk_at dksX6_number_0 1 rfl rfl)
theorem dX6_number_2 : decode cX6_number 2 = .ok (.getfield 35, 3) := dk_180 0 35 (dk_at dksX6_number_0 2 rfl rfl)
theorem dX6_number_5 : decode cX6_number 5 = .ok (.iconst 3, 1) := dk_6 (dk_at dksX6_number_0 5 rfl rfl)
theorem dX6_number_6 : decode cX6_number 6 = .ok (.if_icmp .ne 7, 3) := dk_160 0 7 (dk_at dksX6_number_0 6 rfl rfl)
theorem dX6_number_9 : decode cX6_number 9 = .ok (.iconst 1, 1) := dk_4 (dk_at dksX6_number_0 9 rfl rfl)
theorem dX6_number_10 : decode cX6_number 10 = .ok (.goto 4, 3) := dk_167 0 4 (dk_at dksX6_number_0 10 rfl rfl)
theorem dX6_number_13 : decode cX6_number 13 = .ok (.iconst 0, 1) := dk_3 (dk_at dksX6_number_0 13 rfl rfl)
theorem dX6_number_14 : decode cX6_number 14 = .ok (.iconst 1, 1) := dk_4 (dk_at dksX6_number_0 14 rfl rfl)
theorem dX6_number_15 : decode cX6_number 15 = .ok (.invokevirtual 78, 3) := dk_182 0 78 (dk_at dksX6_number_0 15 rfl rfl)
theorem dX6_number_18 : decode cX6_number 18 = .ok (.aload_n 0, 1) := dk_42 (dk_at dksX6_number_0 18 rfl rfl)
theorem dX6_number_19 : decode cX6_number 19 = .ok (.aload_n 0, 1) := dk_42 (dk_at dksX6_number_0 19 rfl rfl)
theorem dX6_number_20 : decode cX6_number 20 = .ok (.getfield 55, 3) := dk_180 0 55 (dk_at dksX6_number_0 20 rfl rfl)
theorem dX6_number_23 : decode cX6_number 23 = .ok (.iload_n 1, 1) := dk_27 (dk_at dksX6_number_0 23 rfl rfl)
theorem dX6_number_24 : decode cX6_number 24 = .ok (.iload_n 2, 1) := dk_28 (dk_at dksX6_number_1 0 rfl rfl)
theorem dX6_number_25 : decode cX6_number 25 = .ok (.invokestatic 82, 3) := dk_184 0 82 (dk_at dksX6_number_1 1 rfl rfl)
theorem dX6_number_28 : decode cX6_number 28 = .ok (.iconst 2, 1) := dk_5 (dk_at dksX6_number_1 4 rfl rfl)
theorem dX6_number_29 : decode cX6_number 29 = .ok (.invokevirtual 78, 3) := dk_182 0 78 (dk_at dksX6_number_1 5 rfl rfl)
theorem dX6_number_32 : decode cX6_number 32 = .ok (.aload_n 0, 1) := dk_42 (dk_at dksX6_number_1 8 rfl rfl)
theorem dX6_number_33 : decode cX6_number 33 = .ok (.getfield 55, 3) := dk_180 0 55 (dk_at dksX6_number_1 9 rfl rfl)
theorem dX6_number_36 : decode cX6_number 36 = .ok (.istore_n 3, 1) := dk_62 (dk_at dksX6_number_1 12 rfl rfl)
theorem dX6_number_37 : decode cX6_number 37 = .ok (.aload_n 0, 1) := dk_42 (dk_at dksX6_number_1 13 rfl rfl)
theorem dX6_number_38 : decode cX6_number 38 = .ok (.invokevirtual 86, 3) := dk_182 0 86 (dk_at dksX6_number_1 14 rfl rfl)
theorem dX6_number_41 : decode cX6_number 41 = .ok (.iload_n 3, 1) := dk_29 (dk_at dksX6_number_1 17 rfl rfl)
theorem dX6_number_42 : decode cX6_number 42 = .ok (.ireturn, 1) := dk_172 (dk_at dksX6_number_1 18 rfl rfl)
abbrev cX6_cond : ByteArray := prog_8_method_15_code
def yX6_cond : MethodName := ⟨RX6, "cond", "()LGrassPark$Cond;"⟩
def dkwX6_cond_0 : List UInt8 := [42, 18, 177, 182, 0, 120, 154, 0, 5, 1, 176, 42, 182, 0, 86, 42, 182, 0, 174, 176]
abbrev dktX6_cond_0 : List UInt8 := dkwX6_cond_0 ++ []
theorem dksX6_cond_0 : cX6_cond.data.toList.drop 0 = dktX6_cond_0 := by decide +kernel
theorem dX6_cond_0 : decode cX6_cond 0 = .ok (.aload_n 0, 1) := dk_42 (dk_at dksX6_cond_0 0 rfl rfl)
theorem dX6_cond_1 : decode cX6_cond 1 = .ok (.ldc 177, 2) := dk_18 177 (dk_at dksX6_cond_0 1 rfl rfl)
theorem dX6_cond_3 : decode cX6_cond 3 = .ok (.invokevirtual 120, 3) := dk_182 0 120 (dk_at dksX6_cond_0 3 rfl rfl)
theorem dX6_cond_6 : decode cX6_cond 6 = .ok (.ifCond .ne 5, 3) := dk_154 0 5 (dk_at dksX6_cond_0 6 rfl rfl)
theorem dX6_cond_9 : decode cX6_cond 9 = .ok (.aconst_null, 1) := dk_1 (dk_at dksX6_cond_0 9 rfl rfl)
theorem dX6_cond_10 : decode cX6_cond 10 = .ok (.areturn, 1) := dk_176 (dk_at dksX6_cond_0 10 rfl rfl)
theorem dX6_cond_11 : decode cX6_cond 11 = .ok (.aload_n 0, 1) := dk_42 (dk_at dksX6_cond_0 11 rfl rfl)
theorem dX6_cond_12 : decode cX6_cond 12 = .ok (.invokevirtual 86, 3) := dk_182 0 86 (dk_at dksX6_cond_0 12 rfl rfl)
theorem dX6_cond_15 : decode cX6_cond 15 = .ok (.aload_n 0, 1) := dk_42 (dk_at dksX6_cond_0 15 rfl rfl)
theorem dX6_cond_16 : decode cX6_cond 16 = .ok (.invokevirtual 174, 3) := dk_182 0 174 (dk_at dksX6_cond_0 16 rfl rfl)
theorem dX6_cond_19 : decode cX6_cond 19 = .ok (.areturn, 1) := dk_176 (dk_at dksX6_cond_0 19 rfl rfl)
abbrev cX6_any : ByteArray := prog_8_method_16_code
def yX6_any : MethodName := ⟨RX6, "any", "()LGrassPark$Cond;"⟩
def dkwX6_any_1 : List UInt8 := [3, 3, 43, 42, 182, 0, 179, 183, 0, 186, 76, 167, 255, 226, 43, 176]
abbrev dktX6_any_1 : List UInt8 := dkwX6_any_1 ++ []
def dkwX6_any_0 : List UInt8 := [42, 182, 0, 179, 76, 42, 18, 182, 182, 0, 120, 153, 0, 27, 42, 182, 0, 86, 187, 0, 184, 89, 16, 16]
abbrev dktX6_any_0 : List UInt8 := dkwX6_any_0 ++ dktX6_any_1
theorem dksX6_any_0 : cX6_any.data.toList.drop 0 = dktX6_any_0 := by decide +kernel
theorem dksX6_any_1 : cX6_any.data.toList.drop 24 = dktX6_any_1 := dk_seg dksX6_any_0 24 rfl rfl
theorem dX6_any_0 : decode cX6_any 0 = .ok (.aload_n 0, 1) := dk_42 (dk_at dksX6_any_0 0 rfl rfl)
theorem dX6_any_1 : decode cX6_any 1 = .ok (.invokevirtual 179, 3) := dk_182 0 179 (dk_at dksX6_any_0 1 rfl rfl)
theorem dX6_any_4 : decode cX6_any 4 = .ok (.astore_n 1, 1) := dk_76 (dk_at dksX6_any_0 4 rfl rfl)
theorem dX6_any_5 : decode cX6_any 5 = .ok (.aload_n 0, 1) := dk_42 (dk_at dksX6_any_0 5 rfl rfl)
theorem dX6_any_6 : decode cX6_any 6 = .ok (.ldc 182, 2) := dk_18 182 (dk_at dksX6_any_0 6 rfl rfl)
theorem dX6_any_8 : decode cX6_any 8 = .ok (.invokevirtual 120, 3) := dk_182 0 120 (dk_at dksX6_any_0 8 rfl rfl)
theorem dX6_any_11 : decode cX6_any 11 = .ok (.ifCond .eq 27, 3) := dk_153 0 27 (dk_at dksX6_any_0 11 rfl rfl)
theorem dX6_any_14 : decode cX6_any 14 = .ok (.aload_n 0, 1) := dk_42 (dk_at dksX6_any_0 14 rfl rfl)
theorem dX6_any_15 : decode cX6_any 15 = .ok (.invokevirtual 86, 3) := dk_182 0 86 (dk_at dksX6_any_0 15 rfl rfl)
theorem dX6_any_18 : decode cX6_any 18 = .ok (.new 184, 3) := dk_187 0 184 (dk_at dksX6_any_0 18 rfl rfl)
theorem dX6_any_21 : decode cX6_any 21 = .ok (.dup, 1) := dk_89 (dk_at dksX6_any_0 21 rfl rfl)
theorem dX6_any_22 : decode cX6_any 22 = .ok (.bipush 16, 2) := dk_16 16 (dk_at dksX6_any_0 22 rfl rfl)
theorem dX6_any_24 : decode cX6_any 24 = .ok (.iconst 0, 1) := dk_3 (dk_at dksX6_any_1 0 rfl rfl)
theorem dX6_any_25 : decode cX6_any 25 = .ok (.iconst 0, 1) := dk_3 (dk_at dksX6_any_1 1 rfl rfl)
theorem dX6_any_26 : decode cX6_any 26 = .ok (.aload_n 1, 1) := dk_43 (dk_at dksX6_any_1 2 rfl rfl)
theorem dX6_any_27 : decode cX6_any 27 = .ok (.aload_n 0, 1) := dk_42 (dk_at dksX6_any_1 3 rfl rfl)
theorem dX6_any_28 : decode cX6_any 28 = .ok (.invokevirtual 179, 3) := dk_182 0 179 (dk_at dksX6_any_1 4 rfl rfl)
theorem dX6_any_31 : decode cX6_any 31 = .ok (.invokespecial 186, 3) := dk_183 0 186 (dk_at dksX6_any_1 7 rfl rfl)
theorem dX6_any_34 : decode cX6_any 34 = .ok (.astore_n 1, 1) := dk_76 (dk_at dksX6_any_1 10 rfl rfl)
theorem dX6_any_35 : decode cX6_any 35 = .ok (.goto (-30), 3) := dk_167 255 226 (dk_at dksX6_any_1 11 rfl rfl)
theorem dX6_any_38 : decode cX6_any 38 = .ok (.aload_n 1, 1) := dk_43 (dk_at dksX6_any_1 14 rfl rfl)
theorem dX6_any_39 : decode cX6_any 39 = .ok (.areturn, 1) := dk_176 (dk_at dksX6_any_1 15 rfl rfl)
abbrev cX6_all : ByteArray := prog_8_method_17_code
def yX6_all : MethodName := ⟨RX6, "all", "()LGrassPark$Cond;"⟩
def dkwX6_all_1 : List UInt8 := [3, 3, 43, 42, 182, 0, 189, 183, 0, 186, 76, 167, 255, 226, 43, 176]
abbrev dktX6_all_1 : List UInt8 := dkwX6_all_1 ++ []
def dkwX6_all_0 : List UInt8 := [42, 182, 0, 189, 76, 42, 18, 192, 182, 0, 120, 153, 0, 27, 42, 182, 0, 86, 187, 0, 184, 89, 16, 15]
abbrev dktX6_all_0 : List UInt8 := dkwX6_all_0 ++ dktX6_all_1
theorem dksX6_all_0 : cX6_all.data.toList.drop 0 = dktX6_all_0 := by decide +kernel
theorem dksX6_all_1 : cX6_all.data.toList.drop 24 = dktX6_all_1 := dk_seg dksX6_all_0 24 rfl rfl
theorem dX6_all_0 : decode cX6_all 0 = .ok (.aload_n 0, 1) := dk_42 (dk_at dksX6_all_0 0 rfl rfl)
theorem dX6_all_1 : decode cX6_all 1 = .ok (.invokevirtual 189, 3) := dk_182 0 189 (dk_at dksX6_all_0 1 rfl rfl)
theorem dX6_all_4 : decode cX6_all 4 = .ok (.astore_n 1, 1) := dk_76 (dk_at dksX6_all_0 4 rfl rfl)
theorem dX6_all_5 : decode cX6_all 5 = .ok (.aload_n 0, 1) := dk_42 (dk_at dksX6_all_0 5 rfl rfl)
theorem dX6_all_6 : decode cX6_all 6 = .ok (.ldc 192, 2) := dk_18 192 (dk_at dksX6_all_0 6 rfl rfl)
theorem dX6_all_8 : decode cX6_all 8 = .ok (.invokevirtual 120, 3) := dk_182 0 120 (dk_at dksX6_all_0 8 rfl rfl)
theorem dX6_all_11 : decode cX6_all 11 = .ok (.ifCond .eq 27, 3) := dk_153 0 27 (dk_at dksX6_all_0 11 rfl rfl)
theorem dX6_all_14 : decode cX6_all 14 = .ok (.aload_n 0, 1) := dk_42 (dk_at dksX6_all_0 14 rfl rfl)
theorem dX6_all_15 : decode cX6_all 15 = .ok (.invokevirtual 86, 3) := dk_182 0 86 (dk_at dksX6_all_0 15 rfl rfl)
theorem dX6_all_18 : decode cX6_all 18 = .ok (.new 184, 3) := dk_187 0 184 (dk_at dksX6_all_0 18 rfl rfl)
theorem dX6_all_21 : decode cX6_all 21 = .ok (.dup, 1) := dk_89 (dk_at dksX6_all_0 21 rfl rfl)
theorem dX6_all_22 : decode cX6_all 22 = .ok (.bipush 15, 2) := dk_16 15 (dk_at dksX6_all_0 22 rfl rfl)
theorem dX6_all_24 : decode cX6_all 24 = .ok (.iconst 0, 1) := dk_3 (dk_at dksX6_all_1 0 rfl rfl)
theorem dX6_all_25 : decode cX6_all 25 = .ok (.iconst 0, 1) := dk_3 (dk_at dksX6_all_1 1 rfl rfl)
theorem dX6_all_26 : decode cX6_all 26 = .ok (.aload_n 1, 1) := dk_43 (dk_at dksX6_all_1 2 rfl rfl)
theorem dX6_all_27 : decode cX6_all 27 = .ok (.aload_n 0, 1) := dk_42 (dk_at dksX6_all_1 3 rfl rfl)
theorem dX6_all_28 : decode cX6_all 28 = .ok (.invokevirtual 189, 3) := dk_182 0 189 (dk_at dksX6_all_1 4 rfl rfl)
theorem dX6_all_31 : decode cX6_all 31 = .ok (.invokespecial 186, 3) := dk_183 0 186 (dk_at dksX6_all_1 7 rfl rfl)
theorem dX6_all_34 : decode cX6_all 34 = .ok (.astore_n 1, 1) := dk_76 (dk_at dksX6_all_1 10 rfl rfl)
theorem dX6_all_35 : decode cX6_all 35 = .ok (.goto (-30), 3) := dk_167 255 226 (dk_at dksX6_all_1 11 rfl rfl)
theorem dX6_all_38 : decode cX6_all 38 = .ok (.aload_n 1, 1) := dk_43 (dk_at dksX6_all_1 14 rfl rfl)
theorem dX6_all_39 : decode cX6_all 39 = .ok (.areturn, 1) := dk_176 (dk_at dksX6_all_1 15 rfl rfl)
abbrev cX6_one : ByteArray := prog_8_method_18_code
def yX6_one : MethodName := ⟨RX6, "one", "()LGrassPark$Cond;"⟩
def dkwX6_one_10 : List UInt8 := [42, 89, 180, 0, 201, 4, 100, 181, 0, 201, 45, 176]
abbrev dktX6_one_10 : List UInt8 := dkwX6_one_10 ++ []
def dkwX6_one_9 : List UInt8 := [182, 0, 86, 187, 0, 184, 89, 27, 21, 4, 42, 3, 17, 3, 231, 182, 0, 130, 1, 1, 183, 0, 186, 78]
abbrev dktX6_one_9 : List UInt8 := dkwX6_one_9 ++ dktX6_one_10
def dkwX6_one_8 : List UInt8 := [16, 62, 182, 0, 89, 153, 0, 7, 4, 167, 0, 4, 3, 4, 182, 0, 78, 42, 180, 0, 52, 54, 4, 42]
abbrev dktX6_one_8 : List UInt8 := dkwX6_one_8 ++ dktX6_one_9
def dkwX6_one_7 : List UInt8 := [167, 0, 71, 42, 42, 16, 60, 182, 0, 89, 154, 0, 21, 42, 16, 61, 182, 0, 89, 154, 0, 12, 42]
abbrev dktX6_one_7 : List UInt8 := dkwX6_one_7 ++ dktX6_one_8
def dkwX6_one_6 : List UInt8 := [167, 0, 93, 27, 16, 10, 162, 0, 19, 187, 0, 184, 89, 27, 3, 3, 1, 1, 183, 0, 186, 78]
abbrev dktX6_one_6 : List UInt8 := dkwX6_one_6 ++ dktX6_one_7
def dkwX6_one_5 : List UInt8 := [2, 160, 0, 26, 42, 182, 0, 174, 78, 42, 42, 16, 41, 182, 0, 89, 4, 182, 0, 78, 42, 182, 0, 86]
abbrev dktX6_one_5 : List UInt8 := dkwX6_one_5 ++ dktX6_one_6
def dkwX6_one_4 : List UInt8 := [153, 0, 23, 187, 0, 184, 89, 16, 14, 3, 3, 42, 182, 0, 189, 1, 183, 0, 186, 78, 167, 0, 121, 27]
abbrev dktX6_one_4 : List UInt8 := dkwX6_one_4 ++ dktX6_one_5
def dkwX6_one_3 : List UInt8 := [89, 180, 0, 198, 4, 96, 181, 0, 198, 42, 89, 180, 0, 201, 4, 96, 181, 0, 201, 42, 182, 0, 86, 28]
abbrev dktX6_one_3 : List UInt8 := dkwX6_one_3 ++ dktX6_one_4
def dkwX6_one_2 : List UInt8 := [16, 40, 162, 0, 16, 42, 180, 0, 201, 16, 10, 162, 0, 7, 4, 167, 0, 4, 3, 7, 182, 0, 78, 42]
abbrev dktX6_one_2 : List UInt8 := dkwX6_one_2 ++ dktX6_one_3
def dkwX6_one_1 : List UInt8 := [42, 16, 40, 182, 0, 89, 153, 0, 7, 4, 167, 0, 4, 3, 4, 182, 0, 78, 42, 42, 180, 0, 198]
abbrev dktX6_one_1 : List UInt8 := dkwX6_one_1 ++ dktX6_one_2
def dkwX6_one_0 : List UInt8 := [42, 18, 194, 182, 0, 114, 60, 42, 18, 196, 182, 0, 120, 61, 42, 27, 2, 160, 0, 16, 28, 154, 0, 12]
abbrev dktX6_one_0 : List UInt8 := dkwX6_one_0 ++ dktX6_one_1
theorem dksX6_one_0 : cX6_one.data.toList.drop 0 = dktX6_one_0 := by decide +kernel
theorem dksX6_one_1 : cX6_one.data.toList.drop 24 = dktX6_one_1 := dk_seg dksX6_one_0 24 rfl rfl
theorem dksX6_one_2 : cX6_one.data.toList.drop 47 = dktX6_one_2 := dk_seg dksX6_one_1 23 rfl rfl
theorem dksX6_one_3 : cX6_one.data.toList.drop 71 = dktX6_one_3 := dk_seg dksX6_one_2 24 rfl rfl
theorem dksX6_one_4 : cX6_one.data.toList.drop 95 = dktX6_one_4 := dk_seg dksX6_one_3 24 rfl rfl
theorem dksX6_one_5 : cX6_one.data.toList.drop 119 = dktX6_one_5 := dk_seg dksX6_one_4 24 rfl rfl
theorem dksX6_one_6 : cX6_one.data.toList.drop 143 = dktX6_one_6 := dk_seg dksX6_one_5 24 rfl rfl
theorem dksX6_one_7 : cX6_one.data.toList.drop 165 = dktX6_one_7 := dk_seg dksX6_one_6 22 rfl rfl
theorem dksX6_one_8 : cX6_one.data.toList.drop 188 = dktX6_one_8 := dk_seg dksX6_one_7 23 rfl rfl
theorem dksX6_one_9 : cX6_one.data.toList.drop 212 = dktX6_one_9 := dk_seg dksX6_one_8 24 rfl rfl
theorem dksX6_one_10 : cX6_one.data.toList.drop 236 = dktX6_one_10 := dk_seg dksX6_one_9 24 rfl rfl
theorem dX6_one_0 : decode cX6_one 0 = .ok (.aload_n 0, 1) := dk_42 (dk_at dksX6_one_0 0 rfl rfl)
theorem dX6_one_1 : decode cX6_one 1 = .ok (.ldc 194, 2) := dk_18 194 (dk_at dksX6_one_0 1 rfl rfl)
theorem dX6_one_3 : decode cX6_one 3 = .ok (.invokevirtual 114, 3) := dk_182 0 114 (dk_at dksX6_one_0 3 rfl rfl)
theorem dX6_one_6 : decode cX6_one 6 = .ok (.istore_n 1, 1) := dk_60 (dk_at dksX6_one_0 6 rfl rfl)
theorem dX6_one_7 : decode cX6_one 7 = .ok (.aload_n 0, 1) := dk_42 (dk_at dksX6_one_0 7 rfl rfl)
theorem dX6_one_8 : decode cX6_one 8 = .ok (.ldc 196, 2) := dk_18 196 (dk_at dksX6_one_0 8 rfl rfl)
theorem dX6_one_10 : decode cX6_one 10 = .ok (.invokevirtual 120, 3) := dk_182 0 120 (dk_at dksX6_one_0 10 rfl rfl)
theorem dX6_one_13 : decode cX6_one 13 = .ok (.istore_n 2, 1) := dk_61 (dk_at dksX6_one_0 13 rfl rfl)
theorem dX6_one_14 : decode cX6_one 14 = .ok (.aload_n 0, 1) := dk_42 (dk_at dksX6_one_0 14 rfl rfl)
theorem dX6_one_15 : decode cX6_one 15 = .ok (.iload_n 1, 1) := dk_27 (dk_at dksX6_one_0 15 rfl rfl)
theorem dX6_one_16 : decode cX6_one 16 = .ok (.iconst (-1), 1) := dk_2 (dk_at dksX6_one_0 16 rfl rfl)
theorem dX6_one_17 : decode cX6_one 17 = .ok (.if_icmp .ne 16, 3) := dk_160 0 16 (dk_at dksX6_one_0 17 rfl rfl)
theorem dX6_one_20 : decode cX6_one 20 = .ok (.iload_n 2, 1) := dk_28 (dk_at dksX6_one_0 20 rfl rfl)
theorem dX6_one_21 : decode cX6_one 21 = .ok (.ifCond .ne 12, 3) := dk_154 0 12 (dk_at dksX6_one_0 21 rfl rfl)
theorem dX6_one_24 : decode cX6_one 24 = .ok (.aload_n 0, 1) := dk_42 (dk_at dksX6_one_1 0 rfl rfl)
theorem dX6_one_25 : decode cX6_one 25 = .ok (.bipush 40, 2) := dk_16 40 (dk_at dksX6_one_1 1 rfl rfl)
theorem dX6_one_27 : decode cX6_one 27 = .ok (.invokevirtual 89, 3) := dk_182 0 89 (dk_at dksX6_one_1 3 rfl rfl)
theorem dX6_one_30 : decode cX6_one 30 = .ok (.ifCond .eq 7, 3) := dk_153 0 7 (dk_at dksX6_one_1 6 rfl rfl)
theorem dX6_one_33 : decode cX6_one 33 = .ok (.iconst 1, 1) := dk_4 (dk_at dksX6_one_1 9 rfl rfl)
theorem dX6_one_34 : decode cX6_one 34 = .ok (.goto 4, 3) := dk_167 0 4 (dk_at dksX6_one_1 10 rfl rfl)
theorem dX6_one_37 : decode cX6_one 37 = .ok (.iconst 0, 1) := dk_3 (dk_at dksX6_one_1 13 rfl rfl)
theorem dX6_one_38 : decode cX6_one 38 = .ok (.iconst 1, 1) := dk_4 (dk_at dksX6_one_1 14 rfl rfl)
theorem dX6_one_39 : decode cX6_one 39 = .ok (.invokevirtual 78, 3) := dk_182 0 78 (dk_at dksX6_one_1 15 rfl rfl)
theorem dX6_one_42 : decode cX6_one 42 = .ok (.aload_n 0, 1) := dk_42 (dk_at dksX6_one_1 18 rfl rfl)
theorem dX6_one_43 : decode cX6_one 43 = .ok (.aload_n 0, 1) := dk_42 (dk_at dksX6_one_1 19 rfl rfl)
theorem dX6_one_44 : decode cX6_one 44 = .ok (.getfield 198, 3) := dk_180 0 198 (dk_at dksX6_one_1 20 rfl rfl)
theorem dX6_one_47 : decode cX6_one 47 = .ok (.bipush 40, 2) := dk_16 40 (dk_at dksX6_one_2 0 rfl rfl)
theorem dX6_one_49 : decode cX6_one 49 = .ok (.if_icmp .ge 16, 3) := dk_162 0 16 (dk_at dksX6_one_2 2 rfl rfl)
theorem dX6_one_52 : decode cX6_one 52 = .ok (.aload_n 0, 1) := dk_42 (dk_at dksX6_one_2 5 rfl rfl)
theorem dX6_one_53 : decode cX6_one 53 = .ok (.getfield 201, 3) := dk_180 0 201 (dk_at dksX6_one_2 6 rfl rfl)
theorem dX6_one_56 : decode cX6_one 56 = .ok (.bipush 10, 2) := dk_16 10 (dk_at dksX6_one_2 9 rfl rfl)
theorem dX6_one_58 : decode cX6_one 58 = .ok (.if_icmp .ge 7, 3) := dk_162 0 7 (dk_at dksX6_one_2 11 rfl rfl)
theorem dX6_one_61 : decode cX6_one 61 = .ok (.iconst 1, 1) := dk_4 (dk_at dksX6_one_2 14 rfl rfl)
theorem dX6_one_62 : decode cX6_one 62 = .ok (.goto 4, 3) := dk_167 0 4 (dk_at dksX6_one_2 15 rfl rfl)
theorem dX6_one_65 : decode cX6_one 65 = .ok (.iconst 0, 1) := dk_3 (dk_at dksX6_one_2 18 rfl rfl)
theorem dX6_one_66 : decode cX6_one 66 = .ok (.iconst 4, 1) := dk_7 (dk_at dksX6_one_2 19 rfl rfl)
theorem dX6_one_67 : decode cX6_one 67 = .ok (.invokevirtual 78, 3) := dk_182 0 78 (dk_at dksX6_one_2 20 rfl rfl)
theorem dX6_one_70 : decode cX6_one 70 = .ok (.aload_n 0, 1) := dk_42 (dk_at dksX6_one_2 23 rfl rfl)
theorem dX6_one_71 : decode cX6_one 71 = .ok (.dup, 1) := dk_89 (dk_at dksX6_one_3 0 rfl rfl)
theorem dX6_one_72 : decode cX6_one 72 = .ok (.getfield 198, 3) := dk_180 0 198 (dk_at dksX6_one_3 1 rfl rfl)
theorem dX6_one_75 : decode cX6_one 75 = .ok (.iconst 1, 1) := dk_4 (dk_at dksX6_one_3 4 rfl rfl)
theorem dX6_one_76 : decode cX6_one 76 = .ok (.iadd, 1) := dk_96 (dk_at dksX6_one_3 5 rfl rfl)
theorem dX6_one_77 : decode cX6_one 77 = .ok (.putfield 198, 3) := dk_181 0 198 (dk_at dksX6_one_3 6 rfl rfl)
theorem dX6_one_80 : decode cX6_one 80 = .ok (.aload_n 0, 1) := dk_42 (dk_at dksX6_one_3 9 rfl rfl)
theorem dX6_one_81 : decode cX6_one 81 = .ok (.dup, 1) := dk_89 (dk_at dksX6_one_3 10 rfl rfl)
theorem dX6_one_82 : decode cX6_one 82 = .ok (.getfield 201, 3) := dk_180 0 201 (dk_at dksX6_one_3 11 rfl rfl)
theorem dX6_one_85 : decode cX6_one 85 = .ok (.iconst 1, 1) := dk_4 (dk_at dksX6_one_3 14 rfl rfl)
theorem dX6_one_86 : decode cX6_one 86 = .ok (.iadd, 1) := dk_96 (dk_at dksX6_one_3 15 rfl rfl)
theorem dX6_one_87 : decode cX6_one 87 = .ok (.putfield 201, 3) := dk_181 0 201 (dk_at dksX6_one_3 16 rfl rfl)
theorem dX6_one_90 : decode cX6_one 90 = .ok (.aload_n 0, 1) := dk_42 (dk_at dksX6_one_3 19 rfl rfl)
theorem dX6_one_91 : decode cX6_one 91 = .ok (.invokevirtual 86, 3) := dk_182 0 86 (dk_at dksX6_one_3 20 rfl rfl)
theorem dX6_one_94 : decode cX6_one 94 = .ok (.iload_n 2, 1) := dk_28 (dk_at dksX6_one_3 23 rfl rfl)
theorem dX6_one_95 : decode cX6_one 95 = .ok (.ifCond .eq 23, 3) := dk_153 0 23 (dk_at dksX6_one_4 0 rfl rfl)
theorem dX6_one_98 : decode cX6_one 98 = .ok (.new 184, 3) := dk_187 0 184 (dk_at dksX6_one_4 3 rfl rfl)
theorem dX6_one_101 : decode cX6_one 101 = .ok (.dup, 1) := dk_89 (dk_at dksX6_one_4 6 rfl rfl)
theorem dX6_one_102 : decode cX6_one 102 = .ok (.bipush 14, 2) := dk_16 14 (dk_at dksX6_one_4 7 rfl rfl)
theorem dX6_one_104 : decode cX6_one 104 = .ok (.iconst 0, 1) := dk_3 (dk_at dksX6_one_4 9 rfl rfl)
theorem dX6_one_105 : decode cX6_one 105 = .ok (.iconst 0, 1) := dk_3 (dk_at dksX6_one_4 10 rfl rfl)
theorem dX6_one_106 : decode cX6_one 106 = .ok (.aload_n 0, 1) := dk_42 (dk_at dksX6_one_4 11 rfl rfl)
theorem dX6_one_107 : decode cX6_one 107 = .ok (.invokevirtual 189, 3) := dk_182 0 189 (dk_at dksX6_one_4 12 rfl rfl)
theorem dX6_one_110 : decode cX6_one 110 = .ok (.aconst_null, 1) := dk_1 (dk_at dksX6_one_4 15 rfl rfl)
theorem dX6_one_111 : decode cX6_one 111 = .ok (.invokespecial 186, 3) := dk_183 0 186 (dk_at dksX6_one_4 16 rfl rfl)
theorem dX6_one_114 : decode cX6_one 114 = .ok (.astore_n 3, 1) := dk_78 (dk_at dksX6_one_4 19 rfl rfl)
theorem dX6_one_115 : decode cX6_one 115 = .ok (.goto 121, 3) := dk_167 0 121 (dk_at dksX6_one_4 20 rfl rfl)
theorem dX6_one_118 : decode cX6_one 118 = .ok (.iload_n 1, 1) := dk_27 (dk_at dksX6_one_4 23 rfl rfl)
theorem dX6_one_119 : decode cX6_one 119 = .ok (.iconst (-1), 1) := dk_2 (dk_at dksX6_one_5 0 rfl rfl)
theorem dX6_one_120 : decode cX6_one 120 = .ok (.if_icmp .ne 26, 3) := dk_160 0 26 (dk_at dksX6_one_5 1 rfl rfl)
theorem dX6_one_123 : decode cX6_one 123 = .ok (.aload_n 0, 1) := dk_42 (dk_at dksX6_one_5 4 rfl rfl)
theorem dX6_one_124 : decode cX6_one 124 = .ok (.invokevirtual 174, 3) := dk_182 0 174 (dk_at dksX6_one_5 5 rfl rfl)
theorem dX6_one_127 : decode cX6_one 127 = .ok (.astore_n 3, 1) := dk_78 (dk_at dksX6_one_5 8 rfl rfl)
theorem dX6_one_128 : decode cX6_one 128 = .ok (.aload_n 0, 1) := dk_42 (dk_at dksX6_one_5 9 rfl rfl)
theorem dX6_one_129 : decode cX6_one 129 = .ok (.aload_n 0, 1) := dk_42 (dk_at dksX6_one_5 10 rfl rfl)
theorem dX6_one_130 : decode cX6_one 130 = .ok (.bipush 41, 2) := dk_16 41 (dk_at dksX6_one_5 11 rfl rfl)
theorem dX6_one_132 : decode cX6_one 132 = .ok (.invokevirtual 89, 3) := dk_182 0 89 (dk_at dksX6_one_5 13 rfl rfl)
theorem dX6_one_135 : decode cX6_one 135 = .ok (.iconst 1, 1) := dk_4 (dk_at dksX6_one_5 16 rfl rfl)
theorem dX6_one_136 : decode cX6_one 136 = .ok (.invokevirtual 78, 3) := dk_182 0 78 (dk_at dksX6_one_5 17 rfl rfl)
theorem dX6_one_139 : decode cX6_one 139 = .ok (.aload_n 0, 1) := dk_42 (dk_at dksX6_one_5 20 rfl rfl)
theorem dX6_one_140 : decode cX6_one 140 = .ok (.invokevirtual 86, 3) := dk_182 0 86 (dk_at dksX6_one_5 21 rfl rfl)
theorem dX6_one_143 : decode cX6_one 143 = .ok (.goto 93, 3) := dk_167 0 93 (dk_at dksX6_one_6 0 rfl rfl)
theorem dX6_one_146 : decode cX6_one 146 = .ok (.iload_n 1, 1) := dk_27 (dk_at dksX6_one_6 3 rfl rfl)
theorem dX6_one_147 : decode cX6_one 147 = .ok (.bipush 10, 2) := dk_16 10 (dk_at dksX6_one_6 4 rfl rfl)
theorem dX6_one_149 : decode cX6_one 149 = .ok (.if_icmp .ge 19, 3) := dk_162 0 19 (dk_at dksX6_one_6 6 rfl rfl)
theorem dX6_one_152 : decode cX6_one 152 = .ok (.new 184, 3) := dk_187 0 184 (dk_at dksX6_one_6 9 rfl rfl)
theorem dX6_one_155 : decode cX6_one 155 = .ok (.dup, 1) := dk_89 (dk_at dksX6_one_6 12 rfl rfl)
theorem dX6_one_156 : decode cX6_one 156 = .ok (.iload_n 1, 1) := dk_27 (dk_at dksX6_one_6 13 rfl rfl)
theorem dX6_one_157 : decode cX6_one 157 = .ok (.iconst 0, 1) := dk_3 (dk_at dksX6_one_6 14 rfl rfl)
theorem dX6_one_158 : decode cX6_one 158 = .ok (.iconst 0, 1) := dk_3 (dk_at dksX6_one_6 15 rfl rfl)
theorem dX6_one_159 : decode cX6_one 159 = .ok (.aconst_null, 1) := dk_1 (dk_at dksX6_one_6 16 rfl rfl)
theorem dX6_one_160 : decode cX6_one 160 = .ok (.aconst_null, 1) := dk_1 (dk_at dksX6_one_6 17 rfl rfl)
theorem dX6_one_161 : decode cX6_one 161 = .ok (.invokespecial 186, 3) := dk_183 0 186 (dk_at dksX6_one_6 18 rfl rfl)
theorem dX6_one_164 : decode cX6_one 164 = .ok (.astore_n 3, 1) := dk_78 (dk_at dksX6_one_6 21 rfl rfl)
theorem dX6_one_165 : decode cX6_one 165 = .ok (.goto 71, 3) := dk_167 0 71 (dk_at dksX6_one_7 0 rfl rfl)
theorem dX6_one_168 : decode cX6_one 168 = .ok (.aload_n 0, 1) := dk_42 (dk_at dksX6_one_7 3 rfl rfl)
theorem dX6_one_169 : decode cX6_one 169 = .ok (.aload_n 0, 1) := dk_42 (dk_at dksX6_one_7 4 rfl rfl)
theorem dX6_one_170 : decode cX6_one 170 = .ok (.bipush 60, 2) := dk_16 60 (dk_at dksX6_one_7 5 rfl rfl)
theorem dX6_one_172 : decode cX6_one 172 = .ok (.invokevirtual 89, 3) := dk_182 0 89 (dk_at dksX6_one_7 7 rfl rfl)
theorem dX6_one_175 : decode cX6_one 175 = .ok (.ifCond .ne 21, 3) := dk_154 0 21 (dk_at dksX6_one_7 10 rfl rfl)
theorem dX6_one_178 : decode cX6_one 178 = .ok (.aload_n 0, 1) := dk_42 (dk_at dksX6_one_7 13 rfl rfl)
theorem dX6_one_179 : decode cX6_one 179 = .ok (.bipush 61, 2) := dk_16 61 (dk_at dksX6_one_7 14 rfl rfl)
theorem dX6_one_181 : decode cX6_one 181 = .ok (.invokevirtual 89, 3) := dk_182 0 89 (dk_at dksX6_one_7 16 rfl rfl)
theorem dX6_one_184 : decode cX6_one 184 = .ok (.ifCond .ne 12, 3) := dk_154 0 12 (dk_at dksX6_one_7 19 rfl rfl)
theorem dX6_one_187 : decode cX6_one 187 = .ok (.aload_n 0, 1) := dk_42 (dk_at dksX6_one_7 22 rfl rfl)
theorem dX6_one_188 : decode cX6_one 188 = .ok (.bipush 62, 2) := dk_16 62 (dk_at dksX6_one_8 0 rfl rfl)
theorem dX6_one_190 : decode cX6_one 190 = .ok (.invokevirtual 89, 3) := dk_182 0 89 (dk_at dksX6_one_8 2 rfl rfl)
theorem dX6_one_193 : decode cX6_one 193 = .ok (.ifCond .eq 7, 3) := dk_153 0 7 (dk_at dksX6_one_8 5 rfl rfl)
theorem dX6_one_196 : decode cX6_one 196 = .ok (.iconst 1, 1) := dk_4 (dk_at dksX6_one_8 8 rfl rfl)
theorem dX6_one_197 : decode cX6_one 197 = .ok (.goto 4, 3) := dk_167 0 4 (dk_at dksX6_one_8 9 rfl rfl)
theorem dX6_one_200 : decode cX6_one 200 = .ok (.iconst 0, 1) := dk_3 (dk_at dksX6_one_8 12 rfl rfl)
theorem dX6_one_201 : decode cX6_one 201 = .ok (.iconst 1, 1) := dk_4 (dk_at dksX6_one_8 13 rfl rfl)
theorem dX6_one_202 : decode cX6_one 202 = .ok (.invokevirtual 78, 3) := dk_182 0 78 (dk_at dksX6_one_8 14 rfl rfl)
theorem dX6_one_205 : decode cX6_one 205 = .ok (.aload_n 0, 1) := dk_42 (dk_at dksX6_one_8 17 rfl rfl)
theorem dX6_one_206 : decode cX6_one 206 = .ok (.getfield 52, 3) := dk_180 0 52 (dk_at dksX6_one_8 18 rfl rfl)
theorem dX6_one_209 : decode cX6_one 209 = .ok (.istore 4, 2) := dk_54 4 (dk_at dksX6_one_8 21 rfl rfl)
theorem dX6_one_211 : decode cX6_one 211 = .ok (.aload_n 0, 1) := dk_42 (dk_at dksX6_one_8 23 rfl rfl)
theorem dX6_one_212 : decode cX6_one 212 = .ok (.invokevirtual 86, 3) := dk_182 0 86 (dk_at dksX6_one_9 0 rfl rfl)
theorem dX6_one_215 : decode cX6_one 215 = .ok (.new 184, 3) := dk_187 0 184 (dk_at dksX6_one_9 3 rfl rfl)
theorem dX6_one_218 : decode cX6_one 218 = .ok (.dup, 1) := dk_89 (dk_at dksX6_one_9 6 rfl rfl)
theorem dX6_one_219 : decode cX6_one 219 = .ok (.iload_n 1, 1) := dk_27 (dk_at dksX6_one_9 7 rfl rfl)
theorem dX6_one_220 : decode cX6_one 220 = .ok (.iload 4, 2) := dk_21 4 (dk_at dksX6_one_9 8 rfl rfl)
theorem dX6_one_222 : decode cX6_one 222 = .ok (.aload_n 0, 1) := dk_42 (dk_at dksX6_one_9 10 rfl rfl)
theorem dX6_one_223 : decode cX6_one 223 = .ok (.iconst 0, 1) := dk_3 (dk_at dksX6_one_9 11 rfl rfl)
theorem dX6_one_224 : decode cX6_one 224 = .ok (.sipush 999, 3) := dk_17 3 231 (dk_at dksX6_one_9 12 rfl rfl)
theorem dX6_one_227 : decode cX6_one 227 = .ok (.invokevirtual 130, 3) := dk_182 0 130 (dk_at dksX6_one_9 15 rfl rfl)
theorem dX6_one_230 : decode cX6_one 230 = .ok (.aconst_null, 1) := dk_1 (dk_at dksX6_one_9 18 rfl rfl)
theorem dX6_one_231 : decode cX6_one 231 = .ok (.aconst_null, 1) := dk_1 (dk_at dksX6_one_9 19 rfl rfl)
theorem dX6_one_232 : decode cX6_one 232 = .ok (.invokespecial 186, 3) := dk_183 0 186 (dk_at dksX6_one_9 20 rfl rfl)
theorem dX6_one_235 : decode cX6_one 235 = .ok (.astore_n 3, 1) := dk_78 (dk_at dksX6_one_9 23 rfl rfl)
theorem dX6_one_236 : decode cX6_one 236 = .ok (.aload_n 0, 1) := dk_42 (dk_at dksX6_one_10 0 rfl rfl)
theorem dX6_one_237 : decode cX6_one 237 = .ok (.dup, 1) := dk_89 (dk_at dksX6_one_10 1 rfl rfl)
theorem dX6_one_238 : decode cX6_one 238 = .ok (.getfield 201, 3) := dk_180 0 201 (dk_at dksX6_one_10 2 rfl rfl)
theorem dX6_one_241 : decode cX6_one 241 = .ok (.iconst 1, 1) := dk_4 (dk_at dksX6_one_10 5 rfl rfl)
theorem dX6_one_242 : decode cX6_one 242 = .ok (.isub, 1) := dk_100 (dk_at dksX6_one_10 6 rfl rfl)
theorem dX6_one_243 : decode cX6_one 243 = .ok (.putfield 201, 3) := dk_181 0 201 (dk_at dksX6_one_10 7 rfl rfl)
theorem dX6_one_246 : decode cX6_one 246 = .ok (.aload_n 3, 1) := dk_45 (dk_at dksX6_one_10 10 rfl rfl)
theorem dX6_one_247 : decode cX6_one 247 = .ok (.areturn, 1) := dk_176 (dk_at dksX6_one_10 11 rfl rfl)
abbrev cX6_isSign : ByteArray := prog_8_method_8_code
def yX6_isSign : MethodName := ⟨RX6, "isSign", "(I)Z"⟩
def dkwX6_isSign_0 : List UInt8 := [42, 180, 0, 35, 7, 160, 0, 15, 42, 180, 0, 52, 27, 160, 0, 7, 4, 167, 0, 4, 3, 172]
abbrev dktX6_isSign_0 : List UInt8 := dkwX6_isSign_0 ++ []
theorem dksX6_isSign_0 : cX6_isSign.data.toList.drop 0 = dktX6_isSign_0 := by decide +kernel
theorem dX6_isSign_0 : decode cX6_isSign 0 = .ok (.aload_n 0, 1) := dk_42 (dk_at dksX6_isSign_0 0 rfl rfl)
theorem dX6_isSign_1 : decode cX6_isSign 1 = .ok (.getfield 35, 3) := dk_180 0 35 (dk_at dksX6_isSign_0 1 rfl rfl)
theorem dX6_isSign_4 : decode cX6_isSign 4 = .ok (.iconst 4, 1) := dk_7 (dk_at dksX6_isSign_0 4 rfl rfl)
theorem dX6_isSign_5 : decode cX6_isSign 5 = .ok (.if_icmp .ne 15, 3) := dk_160 0 15 (dk_at dksX6_isSign_0 5 rfl rfl)
theorem dX6_isSign_8 : decode cX6_isSign 8 = .ok (.aload_n 0, 1) := dk_42 (dk_at dksX6_isSign_0 8 rfl rfl)
theorem dX6_isSign_9 : decode cX6_isSign 9 = .ok (.getfield 52, 3) := dk_180 0 52 (dk_at dksX6_isSign_0 9 rfl rfl)
theorem dX6_isSign_12 : decode cX6_isSign 12 = .ok (.iload_n 1, 1) := dk_27 (dk_at dksX6_isSign_0 12 rfl rfl)
theorem dX6_isSign_13 : decode cX6_isSign 13 = .ok (.if_icmp .ne 7, 3) := dk_160 0 7 (dk_at dksX6_isSign_0 13 rfl rfl)
theorem dX6_isSign_16 : decode cX6_isSign 16 = .ok (.iconst 1, 1) := dk_4 (dk_at dksX6_isSign_0 16 rfl rfl)
theorem dX6_isSign_17 : decode cX6_isSign 17 = .ok (.goto 4, 3) := dk_167 0 4 (dk_at dksX6_isSign_0 17 rfl rfl)
theorem dX6_isSign_20 : decode cX6_isSign 20 = .ok (.iconst 0, 1) := dk_3 (dk_at dksX6_isSign_0 20 rfl rfl)
theorem dX6_isSign_21 : decode cX6_isSign 21 = .ok (.ireturn, 1) := dk_172 (dk_at dksX6_isSign_0 21 rfl rfl)
abbrev cX6_end : ByteArray := prog_8_method_10_code
def yX6_end : MethodName := ⟨RX6, "end", "()V"⟩
def dkwX6_end_0 : List UInt8 := [42, 42, 16, 59, 182, 0, 89, 4, 182, 0, 78, 42, 182, 0, 86, 177]
abbrev dktX6_end_0 : List UInt8 := dkwX6_end_0 ++ []
theorem dksX6_end_0 : cX6_end.data.toList.drop 0 = dktX6_end_0 := by decide +kernel
theorem dX6_end_0 : decode cX6_end 0 = .ok (.aload_n 0, 1) := dk_42 (dk_at dksX6_end_0 0 rfl rfl)
theorem dX6_end_1 : decode cX6_end 1 = .ok (.aload_n 0, 1) := dk_42 (dk_at dksX6_end_0 1 rfl rfl)
theorem dX6_end_2 : decode cX6_end 2 = .ok (.bipush 59, 2) := dk_16 59 (dk_at dksX6_end_0 2 rfl rfl)
theorem dX6_end_4 : decode cX6_end 4 = .ok (.invokevirtual 89, 3) := dk_182 0 89 (dk_at dksX6_end_0 4 rfl rfl)
theorem dX6_end_7 : decode cX6_end 7 = .ok (.iconst 1, 1) := dk_4 (dk_at dksX6_end_0 7 rfl rfl)
theorem dX6_end_8 : decode cX6_end 8 = .ok (.invokevirtual 78, 3) := dk_182 0 78 (dk_at dksX6_end_0 8 rfl rfl)
theorem dX6_end_11 : decode cX6_end 11 = .ok (.aload_n 0, 1) := dk_42 (dk_at dksX6_end_0 11 rfl rfl)
theorem dX6_end_12 : decode cX6_end 12 = .ok (.invokevirtual 86, 3) := dk_182 0 86 (dk_at dksX6_end_0 12 rfl rfl)
theorem dX6_end_15 : decode cX6_end 15 = .ok (.return_, 1) := dk_177 (dk_at dksX6_end_0 15 rfl rfl)
abbrev cX6_readHabit : ByteArray := prog_8_method_14_code
def yX6_readHabit : MethodName := ⟨RX6, "readHabit", "()LGrassPark$Habit;"⟩
def dkwX6_readHabit_8 : List UInt8 := [182, 0, 157, 167, 255, 84, 43, 176]
abbrev dktX6_readHabit_8 : List UInt8 := dkwX6_readHabit_8 ++ []
def dkwX6_readHabit_7 : List UInt8 := [180, 0, 171, 187, 0, 143, 89, 16, 7, 3, 42, 182, 0, 174, 183, 0, 149, 182, 0, 152, 87, 42]
abbrev dktX6_readHabit_7 : List UInt8 := dkwX6_readHabit_7 ++ dktX6_readHabit_8
def dkwX6_readHabit_6 : List UInt8 := [167, 0, 43, 29, 153, 0, 17, 43, 42, 3, 16, 9, 182, 0, 130, 181, 0, 172, 167, 0, 25, 43]
abbrev dktX6_readHabit_6 : List UInt8 := dkwX6_readHabit_6 ++ dktX6_readHabit_7
def dkwX6_readHabit_5 : List UInt8 := [180, 0, 171, 187, 0, 143, 89, 21, 4, 21, 5, 42, 182, 0, 145, 183, 0, 149, 182, 0, 152, 87]
abbrev dktX6_readHabit_5 : List UInt8 := dkwX6_readHabit_5 ++ dktX6_readHabit_6
def dkwX6_readHabit_4 : List UInt8 := [167, 0, 4, 3, 4, 182, 0, 78, 42, 182, 0, 86, 42, 3, 16, 99, 182, 0, 130, 54, 5, 43]
abbrev dktX6_readHabit_4 : List UInt8 := dkwX6_readHabit_4 ++ dktX6_readHabit_5
def dkwX6_readHabit_3 : List UInt8 := [2, 182, 0, 126, 28, 153, 0, 66, 42, 18, 169, 182, 0, 114, 54, 4, 42, 21, 4, 2, 159, 0, 7, 4]
abbrev dktX6_readHabit_3 : List UInt8 := dkwX6_readHabit_3 ++ dktX6_readHabit_4
def dkwX6_readHabit_2 : List UInt8 := [182, 0, 120, 153, 0, 7, 4, 167, 0, 4, 3, 4, 182, 0, 78, 42, 29, 153, 0, 7, 3, 167, 0, 4]
abbrev dktX6_readHabit_2 : List UInt8 := dkwX6_readHabit_2 ++ dktX6_readHabit_3
def dkwX6_readHabit_1 : List UInt8 := [182, 0, 120, 61, 42, 18, 165, 182, 0, 120, 62, 42, 28, 154, 0, 16, 29, 154, 0, 12, 42, 18, 167]
abbrev dktX6_readHabit_1 : List UInt8 := dkwX6_readHabit_1 ++ dktX6_readHabit_2
def dkwX6_readHabit_0 : List UInt8 := [187, 0, 160, 89, 183, 0, 162, 76, 42, 182, 0, 86, 42, 180, 0, 35, 153, 0, 171, 42, 18, 163]
abbrev dktX6_readHabit_0 : List UInt8 := dkwX6_readHabit_0 ++ dktX6_readHabit_1
theorem dksX6_readHabit_0 : cX6_readHabit.data.toList.drop 0 = dktX6_readHabit_0 := by decide +kernel
theorem dksX6_readHabit_1 : cX6_readHabit.data.toList.drop 22 = dktX6_readHabit_1 := dk_seg dksX6_readHabit_0 22 rfl rfl
theorem dksX6_readHabit_2 : cX6_readHabit.data.toList.drop 45 = dktX6_readHabit_2 := dk_seg dksX6_readHabit_1 23 rfl rfl
theorem dksX6_readHabit_3 : cX6_readHabit.data.toList.drop 69 = dktX6_readHabit_3 := dk_seg dksX6_readHabit_2 24 rfl rfl
theorem dksX6_readHabit_4 : cX6_readHabit.data.toList.drop 93 = dktX6_readHabit_4 := dk_seg dksX6_readHabit_3 24 rfl rfl
theorem dksX6_readHabit_5 : cX6_readHabit.data.toList.drop 115 = dktX6_readHabit_5 := dk_seg dksX6_readHabit_4 22 rfl rfl
theorem dksX6_readHabit_6 : cX6_readHabit.data.toList.drop 137 = dktX6_readHabit_6 := dk_seg dksX6_readHabit_5 22 rfl rfl
theorem dksX6_readHabit_7 : cX6_readHabit.data.toList.drop 159 = dktX6_readHabit_7 := dk_seg dksX6_readHabit_6 22 rfl rfl
theorem dksX6_readHabit_8 : cX6_readHabit.data.toList.drop 181 = dktX6_readHabit_8 := dk_seg dksX6_readHabit_7 22 rfl rfl
theorem dX6_readHabit_0 : decode cX6_readHabit 0 = .ok (.new 160, 3) := dk_187 0 160 (dk_at dksX6_readHabit_0 0 rfl rfl)
theorem dX6_readHabit_3 : decode cX6_readHabit 3 = .ok (.dup, 1) := dk_89 (dk_at dksX6_readHabit_0 3 rfl rfl)
theorem dX6_readHabit_4 : decode cX6_readHabit 4 = .ok (.invokespecial 162, 3) := dk_183 0 162 (dk_at dksX6_readHabit_0 4 rfl rfl)
theorem dX6_readHabit_7 : decode cX6_readHabit 7 = .ok (.astore_n 1, 1) := dk_76 (dk_at dksX6_readHabit_0 7 rfl rfl)
theorem dX6_readHabit_8 : decode cX6_readHabit 8 = .ok (.aload_n 0, 1) := dk_42 (dk_at dksX6_readHabit_0 8 rfl rfl)
theorem dX6_readHabit_9 : decode cX6_readHabit 9 = .ok (.invokevirtual 86, 3) := dk_182 0 86 (dk_at dksX6_readHabit_0 9 rfl rfl)
theorem dX6_readHabit_12 : decode cX6_readHabit 12 = .ok (.aload_n 0, 1) := dk_42 (dk_at dksX6_readHabit_0 12 rfl rfl)
theorem dX6_readHabit_13 : decode cX6_readHabit 13 = .ok (.getfield 35, 3) := dk_180 0 35 (dk_at dksX6_readHabit_0 13 rfl rfl)
theorem dX6_readHabit_16 : decode cX6_readHabit 16 = .ok (.ifCond .eq 171, 3) := dk_153 0 171 (dk_at dksX6_readHabit_0 16 rfl rfl)
theorem dX6_readHabit_19 : decode cX6_readHabit 19 = .ok (.aload_n 0, 1) := dk_42 (dk_at dksX6_readHabit_0 19 rfl rfl)
theorem dX6_readHabit_20 : decode cX6_readHabit 20 = .ok (.ldc 163, 2) := dk_18 163 (dk_at dksX6_readHabit_0 20 rfl rfl)
theorem dX6_readHabit_22 : decode cX6_readHabit 22 = .ok (.invokevirtual 120, 3) := dk_182 0 120 (dk_at dksX6_readHabit_1 0 rfl rfl)
theorem dX6_readHabit_25 : decode cX6_readHabit 25 = .ok (.istore_n 2, 1) := dk_61 (dk_at dksX6_readHabit_1 3 rfl rfl)
theorem dX6_readHabit_26 : decode cX6_readHabit 26 = .ok (.aload_n 0, 1) := dk_42 (dk_at dksX6_readHabit_1 4 rfl rfl)
theorem dX6_readHabit_27 : decode cX6_readHabit 27 = .ok (.ldc 165, 2) := dk_18 165 (dk_at dksX6_readHabit_1 5 rfl rfl)
theorem dX6_readHabit_29 : decode cX6_readHabit 29 = .ok (.invokevirtual 120, 3) := dk_182 0 120 (dk_at dksX6_readHabit_1 7 rfl rfl)
theorem dX6_readHabit_32 : decode cX6_readHabit 32 = .ok (.istore_n 3, 1) := dk_62 (dk_at dksX6_readHabit_1 10 rfl rfl)
theorem dX6_readHabit_33 : decode cX6_readHabit 33 = .ok (.aload_n 0, 1) := dk_42 (dk_at dksX6_readHabit_1 11 rfl rfl)
theorem dX6_readHabit_34 : decode cX6_readHabit 34 = .ok (.iload_n 2, 1) := dk_28 (dk_at dksX6_readHabit_1 12 rfl rfl)
theorem dX6_readHabit_35 : decode cX6_readHabit 35 = .ok (.ifCond .ne 16, 3) := dk_154 0 16 (dk_at dksX6_readHabit_1 13 rfl rfl)
theorem dX6_readHabit_38 : decode cX6_readHabit 38 = .ok (.iload_n 3, 1) := dk_29 (dk_at dksX6_readHabit_1 16 rfl rfl)
theorem dX6_readHabit_39 : decode cX6_readHabit 39 = .ok (.ifCond .ne 12, 3) := dk_154 0 12 (dk_at dksX6_readHabit_1 17 rfl rfl)
theorem dX6_readHabit_42 : decode cX6_readHabit 42 = .ok (.aload_n 0, 1) := dk_42 (dk_at dksX6_readHabit_1 20 rfl rfl)
theorem dX6_readHabit_43 : decode cX6_readHabit 43 = .ok (.ldc 167, 2) := dk_18 167 (dk_at dksX6_readHabit_1 21 rfl rfl)
theorem dX6_readHabit_45 : decode cX6_readHabit 45 = .ok (.invokevirtual 120, 3) := dk_182 0 120 (dk_at dksX6_readHabit_2 0 rfl rfl)
theorem dX6_readHabit_48 : decode cX6_readHabit 48 = .ok (.ifCond .eq 7, 3) := dk_153 0 7 (dk_at dksX6_readHabit_2 3 rfl rfl)
theorem dX6_readHabit_51 : decode cX6_readHabit 51 = .ok (.iconst 1, 1) := dk_4 (dk_at dksX6_readHabit_2 6 rfl rfl)
theorem dX6_readHabit_52 : decode cX6_readHabit 52 = .ok (.goto 4, 3) := dk_167 0 4 (dk_at dksX6_readHabit_2 7 rfl rfl)
theorem dX6_readHabit_55 : decode cX6_readHabit 55 = .ok (.iconst 0, 1) := dk_3 (dk_at dksX6_readHabit_2 10 rfl rfl)
theorem dX6_readHabit_56 : decode cX6_readHabit 56 = .ok (.iconst 1, 1) := dk_4 (dk_at dksX6_readHabit_2 11 rfl rfl)
theorem dX6_readHabit_57 : decode cX6_readHabit 57 = .ok (.invokevirtual 78, 3) := dk_182 0 78 (dk_at dksX6_readHabit_2 12 rfl rfl)
theorem dX6_readHabit_60 : decode cX6_readHabit 60 = .ok (.aload_n 0, 1) := dk_42 (dk_at dksX6_readHabit_2 15 rfl rfl)
theorem dX6_readHabit_61 : decode cX6_readHabit 61 = .ok (.iload_n 3, 1) := dk_29 (dk_at dksX6_readHabit_2 16 rfl rfl)
theorem dX6_readHabit_62 : decode cX6_readHabit 62 = .ok (.ifCond .eq 7, 3) := dk_153 0 7 (dk_at dksX6_readHabit_2 17 rfl rfl)
theorem dX6_readHabit_65 : decode cX6_readHabit 65 = .ok (.iconst 0, 1) := dk_3 (dk_at dksX6_readHabit_2 20 rfl rfl)
theorem dX6_readHabit_66 : decode cX6_readHabit 66 = .ok (.goto 4, 3) := dk_167 0 4 (dk_at dksX6_readHabit_2 21 rfl rfl)
theorem dX6_readHabit_69 : decode cX6_readHabit 69 = .ok (.iconst (-1), 1) := dk_2 (dk_at dksX6_readHabit_3 0 rfl rfl)
theorem dX6_readHabit_70 : decode cX6_readHabit 70 = .ok (.invokevirtual 126, 3) := dk_182 0 126 (dk_at dksX6_readHabit_3 1 rfl rfl)
theorem dX6_readHabit_73 : decode cX6_readHabit 73 = .ok (.iload_n 2, 1) := dk_28 (dk_at dksX6_readHabit_3 4 rfl rfl)
theorem dX6_readHabit_74 : decode cX6_readHabit 74 = .ok (.ifCond .eq 66, 3) := dk_153 0 66 (dk_at dksX6_readHabit_3 5 rfl rfl)
theorem dX6_readHabit_77 : decode cX6_readHabit 77 = .ok (.aload_n 0, 1) := dk_42 (dk_at dksX6_readHabit_3 8 rfl rfl)
theorem dX6_readHabit_78 : decode cX6_readHabit 78 = .ok (.ldc 169, 2) := dk_18 169 (dk_at dksX6_readHabit_3 9 rfl rfl)
theorem dX6_readHabit_80 : decode cX6_readHabit 80 = .ok (.invokevirtual 114, 3) := dk_182 0 114 (dk_at dksX6_readHabit_3 11 rfl rfl)
theorem dX6_readHabit_83 : decode cX6_readHabit 83 = .ok (.istore 4, 2) := dk_54 4 (dk_at dksX6_readHabit_3 14 rfl rfl)
theorem dX6_readHabit_85 : decode cX6_readHabit 85 = .ok (.aload_n 0, 1) := dk_42 (dk_at dksX6_readHabit_3 16 rfl rfl)
theorem dX6_readHabit_86 : decode cX6_readHabit 86 = .ok (.iload 4, 2) := dk_21 4 (dk_at dksX6_readHabit_3 17 rfl rfl)
theorem dX6_readHabit_88 : decode cX6_readHabit 88 = .ok (.iconst (-1), 1) := dk_2 (dk_at dksX6_readHabit_3 19 rfl rfl)
theorem dX6_readHabit_89 : decode cX6_readHabit 89 = .ok (.if_icmp .eq 7, 3) := dk_159 0 7 (dk_at dksX6_readHabit_3 20 rfl rfl)
theorem dX6_readHabit_92 : decode cX6_readHabit 92 = .ok (.iconst 1, 1) := dk_4 (dk_at dksX6_readHabit_3 23 rfl rfl)
theorem dX6_readHabit_93 : decode cX6_readHabit 93 = .ok (.goto 4, 3) := dk_167 0 4 (dk_at dksX6_readHabit_4 0 rfl rfl)
theorem dX6_readHabit_96 : decode cX6_readHabit 96 = .ok (.iconst 0, 1) := dk_3 (dk_at dksX6_readHabit_4 3 rfl rfl)
theorem dX6_readHabit_97 : decode cX6_readHabit 97 = .ok (.iconst 1, 1) := dk_4 (dk_at dksX6_readHabit_4 4 rfl rfl)
theorem dX6_readHabit_98 : decode cX6_readHabit 98 = .ok (.invokevirtual 78, 3) := dk_182 0 78 (dk_at dksX6_readHabit_4 5 rfl rfl)
theorem dX6_readHabit_101 : decode cX6_readHabit 101 = .ok (.aload_n 0, 1) := dk_42 (dk_at dksX6_readHabit_4 8 rfl rfl)
theorem dX6_readHabit_102 : decode cX6_readHabit 102 = .ok (.invokevirtual 86, 3) := dk_182 0 86 (dk_at dksX6_readHabit_4 9 rfl rfl)
theorem dX6_readHabit_105 : decode cX6_readHabit 105 = .ok (.aload_n 0, 1) := dk_42 (dk_at dksX6_readHabit_4 12 rfl rfl)
theorem dX6_readHabit_106 : decode cX6_readHabit 106 = .ok (.iconst 0, 1) := dk_3 (dk_at dksX6_readHabit_4 13 rfl rfl)
theorem dX6_readHabit_107 : decode cX6_readHabit 107 = .ok (.bipush 99, 2) := dk_16 99 (dk_at dksX6_readHabit_4 14 rfl rfl)
theorem dX6_readHabit_109 : decode cX6_readHabit 109 = .ok (.invokevirtual 130, 3) := dk_182 0 130 (dk_at dksX6_readHabit_4 16 rfl rfl)
theorem dX6_readHabit_112 : decode cX6_readHabit 112 = .ok (.istore 5, 2) := dk_54 5 (dk_at dksX6_readHabit_4 19 rfl rfl)
theorem dX6_readHabit_114 : decode cX6_readHabit 114 = .ok (.aload_n 1, 1) := dk_43 (dk_at dksX6_readHabit_4 21 rfl rfl)
theorem dX6_readHabit_115 : decode cX6_readHabit 115 = .ok (.getfield 171, 3) := dk_180 0 171 (dk_at dksX6_readHabit_5 0 rfl rfl)
theorem dX6_readHabit_118 : decode cX6_readHabit 118 = .ok (.new 143, 3) := dk_187 0 143 (dk_at dksX6_readHabit_5 3 rfl rfl)
theorem dX6_readHabit_121 : decode cX6_readHabit 121 = .ok (.dup, 1) := dk_89 (dk_at dksX6_readHabit_5 6 rfl rfl)
theorem dX6_readHabit_122 : decode cX6_readHabit 122 = .ok (.iload 4, 2) := dk_21 4 (dk_at dksX6_readHabit_5 7 rfl rfl)
theorem dX6_readHabit_124 : decode cX6_readHabit 124 = .ok (.iload 5, 2) := dk_21 5 (dk_at dksX6_readHabit_5 9 rfl rfl)
theorem dX6_readHabit_126 : decode cX6_readHabit 126 = .ok (.aload_n 0, 1) := dk_42 (dk_at dksX6_readHabit_5 11 rfl rfl)
theorem dX6_readHabit_127 : decode cX6_readHabit 127 = .ok (.invokevirtual 145, 3) := dk_182 0 145 (dk_at dksX6_readHabit_5 12 rfl rfl)
theorem dX6_readHabit_130 : decode cX6_readHabit 130 = .ok (.invokespecial 149, 3) := dk_183 0 149 (dk_at dksX6_readHabit_5 15 rfl rfl)
theorem dX6_readHabit_133 : decode cX6_readHabit 133 = .ok (.invokevirtual 152, 3) := dk_182 0 152 (dk_at dksX6_readHabit_5 18 rfl rfl)
theorem dX6_readHabit_136 : decode cX6_readHabit 136 = .ok (.pop, 1) := dk_87 (dk_at dksX6_readHabit_5 21 rfl rfl)
theorem dX6_readHabit_137 : decode cX6_readHabit 137 = .ok (.goto 43, 3) := dk_167 0 43 (dk_at dksX6_readHabit_6 0 rfl rfl)
theorem dX6_readHabit_140 : decode cX6_readHabit 140 = .ok (.iload_n 3, 1) := dk_29 (dk_at dksX6_readHabit_6 3 rfl rfl)
theorem dX6_readHabit_141 : decode cX6_readHabit 141 = .ok (.ifCond .eq 17, 3) := dk_153 0 17 (dk_at dksX6_readHabit_6 4 rfl rfl)
theorem dX6_readHabit_144 : decode cX6_readHabit 144 = .ok (.aload_n 1, 1) := dk_43 (dk_at dksX6_readHabit_6 7 rfl rfl)
theorem dX6_readHabit_145 : decode cX6_readHabit 145 = .ok (.aload_n 0, 1) := dk_42 (dk_at dksX6_readHabit_6 8 rfl rfl)
theorem dX6_readHabit_146 : decode cX6_readHabit 146 = .ok (.iconst 0, 1) := dk_3 (dk_at dksX6_readHabit_6 9 rfl rfl)
theorem dX6_readHabit_147 : decode cX6_readHabit 147 = .ok (.bipush 9, 2) := dk_16 9 (dk_at dksX6_readHabit_6 10 rfl rfl)
theorem dX6_readHabit_149 : decode cX6_readHabit 149 = .ok (.invokevirtual 130, 3) := dk_182 0 130 (dk_at dksX6_readHabit_6 12 rfl rfl)
theorem dX6_readHabit_152 : decode cX6_readHabit 152 = .ok (.putfield 172, 3) := dk_181 0 172 (dk_at dksX6_readHabit_6 15 rfl rfl)
theorem dX6_readHabit_155 : decode cX6_readHabit 155 = .ok (.goto 25, 3) := dk_167 0 25 (dk_at dksX6_readHabit_6 18 rfl rfl)
theorem dX6_readHabit_158 : decode cX6_readHabit 158 = .ok (.aload_n 1, 1) := dk_43 (dk_at dksX6_readHabit_6 21 rfl rfl)
theorem dX6_readHabit_159 : decode cX6_readHabit 159 = .ok (.getfield 171, 3) := dk_180 0 171 (dk_at dksX6_readHabit_7 0 rfl rfl)
theorem dX6_readHabit_162 : decode cX6_readHabit 162 = .ok (.new 143, 3) := dk_187 0 143 (dk_at dksX6_readHabit_7 3 rfl rfl)
theorem dX6_readHabit_165 : decode cX6_readHabit 165 = .ok (.dup, 1) := dk_89 (dk_at dksX6_readHabit_7 6 rfl rfl)
theorem dX6_readHabit_166 : decode cX6_readHabit 166 = .ok (.bipush 7, 2) := dk_16 7 (dk_at dksX6_readHabit_7 7 rfl rfl)
theorem dX6_readHabit_168 : decode cX6_readHabit 168 = .ok (.iconst 0, 1) := dk_3 (dk_at dksX6_readHabit_7 9 rfl rfl)
theorem dX6_readHabit_169 : decode cX6_readHabit 169 = .ok (.aload_n 0, 1) := dk_42 (dk_at dksX6_readHabit_7 10 rfl rfl)
theorem dX6_readHabit_170 : decode cX6_readHabit 170 = .ok (.invokevirtual 174, 3) := dk_182 0 174 (dk_at dksX6_readHabit_7 11 rfl rfl)
theorem dX6_readHabit_173 : decode cX6_readHabit 173 = .ok (.invokespecial 149, 3) := dk_183 0 149 (dk_at dksX6_readHabit_7 14 rfl rfl)
theorem dX6_readHabit_176 : decode cX6_readHabit 176 = .ok (.invokevirtual 152, 3) := dk_182 0 152 (dk_at dksX6_readHabit_7 17 rfl rfl)
theorem dX6_readHabit_179 : decode cX6_readHabit 179 = .ok (.pop, 1) := dk_87 (dk_at dksX6_readHabit_7 20 rfl rfl)
theorem dX6_readHabit_180 : decode cX6_readHabit 180 = .ok (.aload_n 0, 1) := dk_42 (dk_at dksX6_readHabit_7 21 rfl rfl)
theorem dX6_readHabit_181 : decode cX6_readHabit 181 = .ok (.invokevirtual 157, 3) := dk_182 0 157 (dk_at dksX6_readHabit_8 0 rfl rfl)
theorem dX6_readHabit_184 : decode cX6_readHabit 184 = .ok (.goto (-172), 3) := dk_167 255 84 (dk_at dksX6_readHabit_8 3 rfl rfl)
theorem dX6_readHabit_187 : decode cX6_readHabit 187 = .ok (.aload_n 1, 1) := dk_43 (dk_at dksX6_readHabit_8 6 rfl rfl)
theorem dX6_readHabit_188 : decode cX6_readHabit 188 = .ok (.areturn, 1) := dk_176 (dk_at dksX6_readHabit_8 7 rfl rfl)
theorem q125 : (Jvm.Cond.initialized "GrassPark$Reader") ∈ lw_all := lw_g (lw_at lw_m1 9 rfl) rfl
theorem q283 : (Jvm.Cond.fieldLinkNest "GrassPark$Reader" (140 : Nat) "GrassPark$Law" "lines" "Ljava/util/ArrayList;" "GrassPark") ∈ lw_tbl := lw_at lw_m1 167 rfl
theorem q286 : (Jvm.Cond.fieldLinkNest "GrassPark$Reader" (132 : Nat) "GrassPark$Law" "line" "I" "GrassPark") ∈ lw_tbl := lw_at lw_m1 170 rfl
theorem q289 : (Jvm.Cond.fieldLinkNest "GrassPark$Reader" (134 : Nat) "GrassPark$Law" "mud" "I" "GrassPark") ∈ lw_tbl := lw_at lw_m1 173 rfl
theorem q291 : (Jvm.Cond.fieldLinkNest "GrassPark$Reader" (137 : Nat) "GrassPark$Law" "dry" "I" "GrassPark") ∈ lw_tbl := lw_at lw_m1 175 rfl
theorem q317 : (Jvm.Cond.fieldLinkNest "GrassPark$Reader" (171 : Nat) "GrassPark$Habit" "lines" "Ljava/util/ArrayList;" "GrassPark") ∈ lw_tbl := lw_at lw_m1 201 rfl
theorem q320 : (Jvm.Cond.fieldLinkNest "GrassPark$Reader" (172 : Nat) "GrassPark$Habit" "sight" "I" "GrassPark") ∈ lw_tbl := lw_at lw_m1 204 rfl
theorem q451 : (Jvm.Cond.instantiable "GrassPark$Reader" (12 : Nat)) ∈ lw_all := lw_g (lw_at lw_m2 95 rfl) rfl
theorem q453 : (Jvm.Cond.instanceMethod ({ cls := "GrassPark$Reader", name := "<init>", desc := "([BI)V" } : Jvm.MethodName)) ∈ lw_all := lw_g (lw_at lw_m2 97 rfl) rfl
theorem q454 : (Jvm.Cond.code ({ cls := "GrassPark$Reader", name := "<init>", desc := "([BI)V" } : Jvm.MethodName) prog_8_method_1_code (3 : Nat) (Option.none : Option Jvm.ClassFile.FieldType)) ∈ lw_all := lw_g (lw_at lw_m2 98 rfl) rfl
theorem q455 : (Jvm.Cond.methodLink "GrassPark$Reader" (3 : Nat) ({ cls := "java/lang/Object", name := "<init>", desc := "()V" } : Jvm.MethodName)) ∈ lw_all := lw_g (lw_at lw_m2 99 rfl) rfl
theorem q456 : (Jvm.Cond.stringRef "GrassPark$Reader" (9 : Nat) "") ∈ lw_tbl := lw_at lw_m2 100 rfl
theorem q457 : (Jvm.Cond.fieldLink "GrassPark$Reader" (17 : Nat) "GrassPark$Reader" "tape" "[B") ∈ lw_all := lw_g (lw_at lw_m2 101 rfl) rfl
theorem q458 : (Jvm.Cond.fieldLink "GrassPark$Reader" (21 : Nat) "GrassPark$Reader" "size" "I") ∈ lw_all := lw_g (lw_at lw_m2 102 rfl) rfl
theorem q459 : (Jvm.Cond.fieldLink "GrassPark$Reader" (25 : Nat) "GrassPark$Reader" "to" "I") ∈ lw_all := lw_g (lw_at lw_m2 103 rfl) rfl
theorem q460 : (Jvm.Cond.fieldLink "GrassPark$Reader" (35 : Nat) "GrassPark$Reader" "kind" "I") ∈ lw_all := lw_g (lw_at lw_m2 104 rfl) rfl
theorem q461 : (Jvm.Cond.fieldLink "GrassPark$Reader" (32 : Nat) "GrassPark$Reader" "from" "I") ∈ lw_all := lw_g (lw_at lw_m2 105 rfl) rfl
theorem q462 : (Jvm.Cond.fieldLink "GrassPark$Reader" (55 : Nat) "GrassPark$Reader" "number" "I") ∈ lw_all := lw_g (lw_at lw_m2 106 rfl) rfl
theorem q463 : (Jvm.Cond.fieldLink "GrassPark$Reader" (52 : Nat) "GrassPark$Reader" "sign" "I") ∈ lw_all := lw_g (lw_at lw_m2 107 rfl) rfl
theorem q464 : (Jvm.Cond.fieldLink "GrassPark$Reader" (198 : Nat) "GrassPark$Reader" "ones" "I") ∈ lw_all := lw_g (lw_at lw_m2 108 rfl) rfl
theorem q465 : (Jvm.Cond.fieldLink "GrassPark$Reader" (201 : Nat) "GrassPark$Reader" "within" "I") ∈ lw_all := lw_g (lw_at lw_m2 109 rfl) rfl
theorem q467 : (Jvm.Cond.fieldLink "GrassPark$Reader" (103 : Nat) "GrassPark$Reader" "lines" "I") ∈ lw_all := lw_g (lw_at lw_m2 111 rfl) rfl
theorem q468 : (Jvm.Cond.fieldLink "GrassPark$Reader" (106 : Nat) "GrassPark$Reader" "told" "I") ∈ lw_all := lw_g (lw_at lw_m2 112 rfl) rfl
theorem q469 : (Jvm.Cond.fieldLink "GrassPark$Reader" (11 : Nat) "GrassPark$Reader" "word" "Ljava/lang/String;") ∈ lw_all := lw_g (lw_at lw_m2 113 rfl) rfl
theorem q470 : (Jvm.Cond.laysFinal "GrassPark$Reader" "GrassPark$Reader" "tape" "[B") ∈ lw_all := lw_g (lw_at lw_m2 114 rfl) rfl
theorem q471 : (Jvm.Cond.soleField "GrassPark$Reader" "tape") ∈ lw_all := lw_g (lw_at lw_m2 115 rfl) rfl
theorem q472 : (Jvm.Cond.laysFinal "GrassPark$Reader" "GrassPark$Reader" "size" "I") ∈ lw_all := lw_g (lw_at lw_m2 116 rfl) rfl
theorem q473 : (Jvm.Cond.soleField "GrassPark$Reader" "size") ∈ lw_all := lw_g (lw_at lw_m2 117 rfl) rfl
theorem q474 : (Jvm.Cond.lays "GrassPark$Reader" "GrassPark$Reader" "to" "I") ∈ lw_all := lw_g (lw_at lw_m2 118 rfl) rfl
theorem q475 : (Jvm.Cond.soleField "GrassPark$Reader" "to") ∈ lw_all := lw_g (lw_at lw_m2 119 rfl) rfl
theorem q476 : (Jvm.Cond.lays "GrassPark$Reader" "GrassPark$Reader" "kind" "I") ∈ lw_all := lw_g (lw_at lw_m2 120 rfl) rfl
theorem q477 : (Jvm.Cond.soleField "GrassPark$Reader" "kind") ∈ lw_all := lw_g (lw_at lw_m2 121 rfl) rfl
theorem q478 : (Jvm.Cond.lays "GrassPark$Reader" "GrassPark$Reader" "from" "I") ∈ lw_all := lw_g (lw_at lw_m2 122 rfl) rfl
theorem q479 : (Jvm.Cond.soleField "GrassPark$Reader" "from") ∈ lw_all := lw_g (lw_at lw_m2 123 rfl) rfl
theorem q480 : (Jvm.Cond.lays "GrassPark$Reader" "GrassPark$Reader" "number" "I") ∈ lw_all := lw_g (lw_at lw_m2 124 rfl) rfl
theorem q481 : (Jvm.Cond.soleField "GrassPark$Reader" "number") ∈ lw_all := lw_g (lw_at lw_m2 125 rfl) rfl
theorem q482 : (Jvm.Cond.lays "GrassPark$Reader" "GrassPark$Reader" "sign" "I") ∈ lw_all := lw_g (lw_at lw_m2 126 rfl) rfl
theorem q483 : (Jvm.Cond.soleField "GrassPark$Reader" "sign") ∈ lw_all := lw_g (lw_at lw_m2 127 rfl) rfl
theorem q484 : (Jvm.Cond.lays "GrassPark$Reader" "GrassPark$Reader" "ones" "I") ∈ lw_all := lw_g (lw_at lw_m2 128 rfl) rfl
theorem q485 : (Jvm.Cond.soleField "GrassPark$Reader" "ones") ∈ lw_all := lw_g (lw_at lw_m2 129 rfl) rfl
theorem q486 : (Jvm.Cond.lays "GrassPark$Reader" "GrassPark$Reader" "within" "I") ∈ lw_all := lw_g (lw_at lw_m2 130 rfl) rfl
theorem q487 : (Jvm.Cond.soleField "GrassPark$Reader" "within") ∈ lw_all := lw_g (lw_at lw_m2 131 rfl) rfl
theorem q488 : (Jvm.Cond.lays "GrassPark$Reader" "GrassPark$Reader" "lines" "I") ∈ lw_all := lw_g (lw_at lw_m2 132 rfl) rfl
theorem q489 : (Jvm.Cond.soleField "GrassPark$Reader" "lines") ∈ lw_all := lw_g (lw_at lw_m2 133 rfl) rfl
theorem q490 : (Jvm.Cond.lays "GrassPark$Reader" "GrassPark$Reader" "told" "I") ∈ lw_all := lw_g (lw_at lw_m2 134 rfl) rfl
theorem q491 : (Jvm.Cond.soleField "GrassPark$Reader" "told") ∈ lw_all := lw_g (lw_at lw_m2 135 rfl) rfl
theorem q492 : (Jvm.Cond.lays "GrassPark$Reader" "GrassPark$Reader" "word" "Ljava/lang/String;") ∈ lw_all := lw_g (lw_at lw_m2 136 rfl) rfl
theorem q493 : (Jvm.Cond.soleField "GrassPark$Reader" "word") ∈ lw_all := lw_g (lw_at lw_m2 137 rfl) rfl
theorem q494 : (Jvm.Cond.superclass "GrassPark$Reader" "java/lang/Object") ∈ lw_all := lw_g (lw_at lw_m2 138 rfl) rfl
theorem q496 : (Jvm.Cond.instanceMethod ({ cls := "GrassPark$Reader", name := "readLaw", desc := "()LGrassPark$Law;" } : Jvm.MethodName)) ∈ lw_all := lw_g (lw_at lw_m2 140 rfl) rfl
theorem q497 : (Jvm.Cond.selects "GrassPark$Reader" ({ cls := "GrassPark$Reader", name := "readLaw", desc := "()LGrassPark$Law;" } : Jvm.MethodName) ({ cls := "GrassPark$Reader", name := "readLaw", desc := "()LGrassPark$Law;" } : Jvm.MethodName)) ∈ lw_all := lw_g (lw_at lw_m2 141 rfl) rfl
theorem q498 : (Jvm.Cond.code ({ cls := "GrassPark$Reader", name := "readLaw", desc := "()LGrassPark$Law;" } : Jvm.MethodName) prog_8_method_13_code (5 : Nat) (Option.some (Jvm.ClassFile.FieldType.object "GrassPark$Law"))) ∈ lw_all := lw_g (lw_at lw_m2 142 rfl) rfl
theorem q499 : (Jvm.Cond.classLink "GrassPark$Reader" (109 : Nat) "GrassPark$Law") ∈ lw_all := lw_g (lw_at lw_m2 143 rfl) rfl
theorem q500 : (Jvm.Cond.methodLinkNest "GrassPark$Reader" (111 : Nat) ({ cls := "GrassPark$Law", name := "<init>", desc := "()V" } : Jvm.MethodName) "GrassPark") ∈ lw_tbl := lw_at lw_m2 144 rfl
theorem q501 : (Jvm.Cond.methodLink "GrassPark$Reader" (86 : Nat) ({ cls := "GrassPark$Reader", name := "go", desc := "()V" } : Jvm.MethodName)) ∈ lw_all := lw_g (lw_at lw_m2 145 rfl) rfl
theorem q502 : (Jvm.Cond.privateMethod ({ cls := "GrassPark$Reader", name := "go", desc := "()V" } : Jvm.MethodName)) ∈ lw_tbl := lw_at lw_m2 146 rfl
theorem q503 : (Jvm.Cond.instanceMethod ({ cls := "GrassPark$Reader", name := "go", desc := "()V" } : Jvm.MethodName)) ∈ lw_all := lw_g (lw_at lw_m2 147 rfl) rfl
theorem q504 : (Jvm.Cond.code ({ cls := "GrassPark$Reader", name := "go", desc := "()V" } : Jvm.MethodName) prog_8_method_5_code (5 : Nat) (Option.none : Option Jvm.ClassFile.FieldType)) ∈ lw_all := lw_g (lw_at lw_m2 148 rfl) rfl
theorem q505 : (Jvm.Cond.methodLink "GrassPark$Reader" (28 : Nat) ({ cls := "GrassPark$Reader", name := "byteAt", desc := "(I)I" } : Jvm.MethodName)) ∈ lw_all := lw_g (lw_at lw_m2 149 rfl) rfl
theorem q506 : (Jvm.Cond.privateMethod ({ cls := "GrassPark$Reader", name := "byteAt", desc := "(I)I" } : Jvm.MethodName)) ∈ lw_tbl := lw_at lw_m2 150 rfl
theorem q507 : (Jvm.Cond.instanceMethod ({ cls := "GrassPark$Reader", name := "byteAt", desc := "(I)I" } : Jvm.MethodName)) ∈ lw_all := lw_g (lw_at lw_m2 151 rfl) rfl
theorem q508 : (Jvm.Cond.code ({ cls := "GrassPark$Reader", name := "byteAt", desc := "(I)I" } : Jvm.MethodName) prog_8_method_2_code (2 : Nat) (Option.some Jvm.ClassFile.FieldType.int)) ∈ lw_all := lw_g (lw_at lw_m2 152 rfl) rfl
theorem q509 : (Jvm.Cond.methodLink "GrassPark$Reader" (38 : Nat) ({ cls := "GrassPark$Reader", name := "isLetter", desc := "(I)Z" } : Jvm.MethodName)) ∈ lw_all := lw_g (lw_at lw_m2 153 rfl) rfl
theorem q510 : (Jvm.Cond.static ({ cls := "GrassPark$Reader", name := "isLetter", desc := "(I)Z" } : Jvm.MethodName)) ∈ lw_all := lw_g (lw_at lw_m2 154 rfl) rfl
theorem q511 : (Jvm.Cond.code ({ cls := "GrassPark$Reader", name := "isLetter", desc := "(I)Z" } : Jvm.MethodName) prog_8_method_4_code (1 : Nat) (Option.some Jvm.ClassFile.FieldType.boolean)) ∈ lw_all := lw_g (lw_at lw_m2 155 rfl) rfl
theorem q512 : (Jvm.Cond.methodLink "GrassPark$Reader" (42 : Nat) ({ cls := "GrassPark$Reader", name := "isDigit", desc := "(I)Z" } : Jvm.MethodName)) ∈ lw_all := lw_g (lw_at lw_m2 156 rfl) rfl
theorem q513 : (Jvm.Cond.static ({ cls := "GrassPark$Reader", name := "isDigit", desc := "(I)Z" } : Jvm.MethodName)) ∈ lw_all := lw_g (lw_at lw_m2 157 rfl) rfl
theorem q514 : (Jvm.Cond.code ({ cls := "GrassPark$Reader", name := "isDigit", desc := "(I)Z" } : Jvm.MethodName) prog_8_method_3_code (1 : Nat) (Option.some Jvm.ClassFile.FieldType.boolean)) ∈ lw_all := lw_g (lw_at lw_m2 158 rfl) rfl
theorem q515 : (Jvm.Cond.stringRef "GrassPark$Reader" (45 : Nat) ";()<=>") ∈ lw_tbl := lw_at lw_m2 159 rfl
theorem q516 : (Jvm.Cond.methodLink "GrassPark$Reader" (47 : Nat) ({ cls := "java/lang/String", name := "indexOf", desc := "(I)I" } : Jvm.MethodName)) ∈ lw_all := lw_g (lw_at lw_m2 160 rfl) rfl
theorem q602 : (Jvm.Cond.classLink "GrassPark$Reader" (58 : Nat) "java/lang/StringBuilder") ∈ lw_all := lw_g (lw_at lw_m3 6 rfl) rfl
theorem q604 : (Jvm.Cond.methodLink "GrassPark$Reader" (60 : Nat) ({ cls := "java/lang/StringBuilder", name := "<init>", desc := "()V" } : Jvm.MethodName)) ∈ lw_all := lw_g (lw_at lw_m3 8 rfl) rfl
theorem q632 : (Jvm.Cond.methodLink "GrassPark$Reader" (61 : Nat) ({ cls := "java/lang/StringBuilder", name := "append", desc := "(C)Ljava/lang/StringBuilder;" } : Jvm.MethodName)) ∈ lw_all := lw_g (lw_at lw_m3 36 rfl) rfl
theorem q712 : (Jvm.Cond.methodLink "GrassPark$Reader" (65 : Nat) ({ cls := "java/lang/StringBuilder", name := "toString", desc := "()Ljava/lang/String;" } : Jvm.MethodName)) ∈ lw_all := lw_g (lw_at lw_m3 116 rfl) rfl
theorem q769 : (Jvm.Cond.stringRef "GrassPark$Reader" (112 : Nat) "line mud dry ") ∈ lw_tbl := lw_at lw_m3 173 rfl
theorem q770 : (Jvm.Cond.methodLink "GrassPark$Reader" (114 : Nat) ({ cls := "GrassPark$Reader", name := "among", desc := "(Ljava/lang/String;)I" } : Jvm.MethodName)) ∈ lw_all := lw_g (lw_at lw_m3 174 rfl) rfl
theorem q771 : (Jvm.Cond.privateMethod ({ cls := "GrassPark$Reader", name := "among", desc := "(Ljava/lang/String;)I" } : Jvm.MethodName)) ∈ lw_tbl := lw_at lw_m3 175 rfl
theorem q772 : (Jvm.Cond.instanceMethod ({ cls := "GrassPark$Reader", name := "among", desc := "(Ljava/lang/String;)I" } : Jvm.MethodName)) ∈ lw_all := lw_g (lw_at lw_m3 176 rfl) rfl
theorem q773 : (Jvm.Cond.code ({ cls := "GrassPark$Reader", name := "among", desc := "(Ljava/lang/String;)I" } : Jvm.MethodName) prog_8_method_11_code (5 : Nat) (Option.some Jvm.ClassFile.FieldType.int)) ∈ lw_all := lw_g (lw_at lw_m3 177 rfl) rfl
theorem q774 : (Jvm.Cond.methodLink "GrassPark$Reader" (92 : Nat) ({ cls := "java/lang/String", name := "length", desc := "()I" } : Jvm.MethodName)) ∈ lw_all := lw_g (lw_at lw_m3 178 rfl) rfl
theorem q775 : (Jvm.Cond.methodLink "GrassPark$Reader" (96 : Nat) ({ cls := "java/lang/String", name := "indexOf", desc := "(II)I" } : Jvm.MethodName)) ∈ lw_all := lw_g (lw_at lw_m3 179 rfl) rfl
theorem q776 : (Jvm.Cond.methodLink "GrassPark$Reader" (99 : Nat) ({ cls := "java/lang/String", name := "startsWith", desc := "(Ljava/lang/String;I)Z" } : Jvm.MethodName)) ∈ lw_all := lw_g (lw_at lw_m3 180 rfl) rfl
theorem q885 : (Jvm.Cond.stringRef "GrassPark$Reader" (118 : Nat) "wear") ∈ lw_tbl := lw_at lw_m4 49 rfl
theorem q886 : (Jvm.Cond.methodLink "GrassPark$Reader" (120 : Nat) ({ cls := "GrassPark$Reader", name := "is", desc := "(Ljava/lang/String;)Z" } : Jvm.MethodName)) ∈ lw_all := lw_g (lw_at lw_m4 50 rfl) rfl
theorem q887 : (Jvm.Cond.privateMethod ({ cls := "GrassPark$Reader", name := "is", desc := "(Ljava/lang/String;)Z" } : Jvm.MethodName)) ∈ lw_tbl := lw_at lw_m4 51 rfl
theorem q888 : (Jvm.Cond.instanceMethod ({ cls := "GrassPark$Reader", name := "is", desc := "(Ljava/lang/String;)Z" } : Jvm.MethodName)) ∈ lw_all := lw_g (lw_at lw_m4 52 rfl) rfl
theorem q889 : (Jvm.Cond.code ({ cls := "GrassPark$Reader", name := "is", desc := "(Ljava/lang/String;)Z" } : Jvm.MethodName) prog_8_method_7_code (2 : Nat) (Option.some Jvm.ClassFile.FieldType.boolean)) ∈ lw_all := lw_g (lw_at lw_m4 53 rfl) rfl
theorem q890 : (Jvm.Cond.methodLink "GrassPark$Reader" (74 : Nat) ({ cls := "java/lang/String", name := "equals", desc := "(Ljava/lang/Object;)Z" } : Jvm.MethodName)) ∈ lw_all := lw_g (lw_at lw_m4 54 rfl) rfl
theorem q898 : (Jvm.Cond.stringRef "GrassPark$Reader" (124 : Nat) "grow") ∈ lw_tbl := lw_at lw_m4 62 rfl
theorem q899 : (Jvm.Cond.methodLink "GrassPark$Reader" (78 : Nat) ({ cls := "GrassPark$Reader", name := "need", desc := "(ZI)V" } : Jvm.MethodName)) ∈ lw_all := lw_g (lw_at lw_m4 63 rfl) rfl
theorem q900 : (Jvm.Cond.privateMethod ({ cls := "GrassPark$Reader", name := "need", desc := "(ZI)V" } : Jvm.MethodName)) ∈ lw_tbl := lw_at lw_m4 64 rfl
theorem q901 : (Jvm.Cond.instanceMethod ({ cls := "GrassPark$Reader", name := "need", desc := "(ZI)V" } : Jvm.MethodName)) ∈ lw_all := lw_g (lw_at lw_m4 65 rfl) rfl
theorem q902 : (Jvm.Cond.code ({ cls := "GrassPark$Reader", name := "need", desc := "(ZI)V" } : Jvm.MethodName) prog_8_method_6_code (3 : Nat) (Option.none : Option Jvm.ClassFile.FieldType)) ∈ lw_all := lw_g (lw_at lw_m4 66 rfl) rfl
theorem q903 : (Jvm.Cond.classLink "GrassPark$Reader" (69 : Nat) "GrassPark$Fault") ∈ lw_all := lw_g (lw_at lw_m4 67 rfl) rfl
theorem q941 : (Jvm.Cond.methodLink "GrassPark$Reader" (71 : Nat) ({ cls := "GrassPark$Fault", name := "<init>", desc := "(II)V" } : Jvm.MethodName)) ∈ lw_all := lw_g (lw_at lw_m4 105 rfl) rfl
theorem q968 : (Jvm.Cond.methodLink "GrassPark$Reader" (126 : Nat) ({ cls := "GrassPark$Reader", name := "line", desc := "(I)V" } : Jvm.MethodName)) ∈ lw_all := lw_g (lw_at lw_m4 132 rfl) rfl
theorem q969 : (Jvm.Cond.privateMethod ({ cls := "GrassPark$Reader", name := "line", desc := "(I)V" } : Jvm.MethodName)) ∈ lw_tbl := lw_at lw_m4 133 rfl
theorem q970 : (Jvm.Cond.instanceMethod ({ cls := "GrassPark$Reader", name := "line", desc := "(I)V" } : Jvm.MethodName)) ∈ lw_all := lw_g (lw_at lw_m4 134 rfl) rfl
theorem q971 : (Jvm.Cond.code ({ cls := "GrassPark$Reader", name := "line", desc := "(I)V" } : Jvm.MethodName) prog_8_method_12_code (2 : Nat) (Option.none : Option Jvm.ClassFile.FieldType)) ∈ lw_all := lw_g (lw_at lw_m4 135 rfl) rfl
theorem q972 : (Jvm.Cond.methodLink "GrassPark$Reader" (130 : Nat) ({ cls := "GrassPark$Reader", name := "number", desc := "(II)I" } : Jvm.MethodName)) ∈ lw_all := lw_g (lw_at lw_m4 136 rfl) rfl
theorem q973 : (Jvm.Cond.privateMethod ({ cls := "GrassPark$Reader", name := "number", desc := "(II)I" } : Jvm.MethodName)) ∈ lw_tbl := lw_at lw_m4 137 rfl
theorem q974 : (Jvm.Cond.instanceMethod ({ cls := "GrassPark$Reader", name := "number", desc := "(II)I" } : Jvm.MethodName)) ∈ lw_all := lw_g (lw_at lw_m4 138 rfl) rfl
theorem q975 : (Jvm.Cond.code ({ cls := "GrassPark$Reader", name := "number", desc := "(II)I" } : Jvm.MethodName) prog_8_method_9_code (4 : Nat) (Option.some Jvm.ClassFile.FieldType.int)) ∈ lw_all := lw_g (lw_at lw_m4 139 rfl) rfl
theorem q976 : (Jvm.Cond.methodLinkNest "GrassPark$Reader" (82 : Nat) ({ cls := "GrassPark", name := "isIn", desc := "(III)Z" } : Jvm.MethodName) "GrassPark") ∈ lw_tbl := lw_at lw_m4 140 rfl
theorem q977 : (Jvm.Cond.classLink "GrassPark$Reader" (143 : Nat) "GrassPark$Line") ∈ lw_all := lw_g (lw_at lw_m4 141 rfl) rfl
theorem q979 : (Jvm.Cond.methodLink "GrassPark$Reader" (145 : Nat) ({ cls := "GrassPark$Reader", name := "cond", desc := "()LGrassPark$Cond;" } : Jvm.MethodName)) ∈ lw_all := lw_g (lw_at lw_m4 143 rfl) rfl
theorem q980 : (Jvm.Cond.privateMethod ({ cls := "GrassPark$Reader", name := "cond", desc := "()LGrassPark$Cond;" } : Jvm.MethodName)) ∈ lw_tbl := lw_at lw_m4 144 rfl
theorem q981 : (Jvm.Cond.instanceMethod ({ cls := "GrassPark$Reader", name := "cond", desc := "()LGrassPark$Cond;" } : Jvm.MethodName)) ∈ lw_all := lw_g (lw_at lw_m4 145 rfl) rfl
theorem q982 : (Jvm.Cond.code ({ cls := "GrassPark$Reader", name := "cond", desc := "()LGrassPark$Cond;" } : Jvm.MethodName) prog_8_method_15_code (1 : Nat) (Option.some (Jvm.ClassFile.FieldType.object "GrassPark$Cond"))) ∈ lw_all := lw_g (lw_at lw_m4 146 rfl) rfl
theorem q983 : (Jvm.Cond.stringRef "GrassPark$Reader" (177 : Nat) "if") ∈ lw_tbl := lw_at lw_m4 147 rfl
theorem q984 : (Jvm.Cond.methodLink "GrassPark$Reader" (174 : Nat) ({ cls := "GrassPark$Reader", name := "any", desc := "()LGrassPark$Cond;" } : Jvm.MethodName)) ∈ lw_all := lw_g (lw_at lw_m4 148 rfl) rfl
theorem q985 : (Jvm.Cond.privateMethod ({ cls := "GrassPark$Reader", name := "any", desc := "()LGrassPark$Cond;" } : Jvm.MethodName)) ∈ lw_tbl := lw_at lw_m4 149 rfl
theorem q986 : (Jvm.Cond.instanceMethod ({ cls := "GrassPark$Reader", name := "any", desc := "()LGrassPark$Cond;" } : Jvm.MethodName)) ∈ lw_all := lw_g (lw_at lw_m4 150 rfl) rfl
theorem q987 : (Jvm.Cond.code ({ cls := "GrassPark$Reader", name := "any", desc := "()LGrassPark$Cond;" } : Jvm.MethodName) prog_8_method_16_code (2 : Nat) (Option.some (Jvm.ClassFile.FieldType.object "GrassPark$Cond"))) ∈ lw_all := lw_g (lw_at lw_m4 151 rfl) rfl
theorem q988 : (Jvm.Cond.methodLink "GrassPark$Reader" (179 : Nat) ({ cls := "GrassPark$Reader", name := "all", desc := "()LGrassPark$Cond;" } : Jvm.MethodName)) ∈ lw_all := lw_g (lw_at lw_m4 152 rfl) rfl
theorem q989 : (Jvm.Cond.privateMethod ({ cls := "GrassPark$Reader", name := "all", desc := "()LGrassPark$Cond;" } : Jvm.MethodName)) ∈ lw_tbl := lw_at lw_m4 153 rfl
theorem q990 : (Jvm.Cond.instanceMethod ({ cls := "GrassPark$Reader", name := "all", desc := "()LGrassPark$Cond;" } : Jvm.MethodName)) ∈ lw_all := lw_g (lw_at lw_m4 154 rfl) rfl
theorem q991 : (Jvm.Cond.code ({ cls := "GrassPark$Reader", name := "all", desc := "()LGrassPark$Cond;" } : Jvm.MethodName) prog_8_method_17_code (2 : Nat) (Option.some (Jvm.ClassFile.FieldType.object "GrassPark$Cond"))) ∈ lw_all := lw_g (lw_at lw_m4 155 rfl) rfl
theorem q992 : (Jvm.Cond.methodLink "GrassPark$Reader" (189 : Nat) ({ cls := "GrassPark$Reader", name := "one", desc := "()LGrassPark$Cond;" } : Jvm.MethodName)) ∈ lw_all := lw_g (lw_at lw_m4 156 rfl) rfl
theorem q993 : (Jvm.Cond.privateMethod ({ cls := "GrassPark$Reader", name := "one", desc := "()LGrassPark$Cond;" } : Jvm.MethodName)) ∈ lw_tbl := lw_at lw_m4 157 rfl
theorem q994 : (Jvm.Cond.instanceMethod ({ cls := "GrassPark$Reader", name := "one", desc := "()LGrassPark$Cond;" } : Jvm.MethodName)) ∈ lw_all := lw_g (lw_at lw_m4 158 rfl) rfl
theorem q995 : (Jvm.Cond.code ({ cls := "GrassPark$Reader", name := "one", desc := "()LGrassPark$Cond;" } : Jvm.MethodName) prog_8_method_18_code (5 : Nat) (Option.some (Jvm.ClassFile.FieldType.object "GrassPark$Cond"))) ∈ lw_all := lw_g (lw_at lw_m4 159 rfl) rfl
theorem q996 : (Jvm.Cond.stringRef "GrassPark$Reader" (194 : Nat) "grass gravel bed - paved steps - sign muddy worn wear wet height trod ") ∈ lw_tbl := lw_at lw_m4 160 rfl
theorem q997 : (Jvm.Cond.stringRef "GrassPark$Reader" (196 : Nat) "not") ∈ lw_tbl := lw_at lw_m4 161 rfl
theorem q998 : (Jvm.Cond.methodLink "GrassPark$Reader" (89 : Nat) ({ cls := "GrassPark$Reader", name := "isSign", desc := "(I)Z" } : Jvm.MethodName)) ∈ lw_all := lw_g (lw_at lw_m4 162 rfl) rfl
theorem q999 : (Jvm.Cond.privateMethod ({ cls := "GrassPark$Reader", name := "isSign", desc := "(I)Z" } : Jvm.MethodName)) ∈ lw_tbl := lw_at lw_m4 163 rfl
theorem q1000 : (Jvm.Cond.instanceMethod ({ cls := "GrassPark$Reader", name := "isSign", desc := "(I)Z" } : Jvm.MethodName)) ∈ lw_all := lw_g (lw_at lw_m4 164 rfl) rfl
theorem q1001 : (Jvm.Cond.code ({ cls := "GrassPark$Reader", name := "isSign", desc := "(I)Z" } : Jvm.MethodName) prog_8_method_8_code (2 : Nat) (Option.some Jvm.ClassFile.FieldType.boolean)) ∈ lw_all := lw_g (lw_at lw_m4 165 rfl) rfl
theorem q1002 : (Jvm.Cond.classLink "GrassPark$Reader" (184 : Nat) "GrassPark$Cond") ∈ lw_all := lw_g (lw_at lw_m4 166 rfl) rfl
theorem q1004 : (Jvm.Cond.methodLink "GrassPark$Reader" (186 : Nat) ({ cls := "GrassPark$Cond", name := "<init>", desc := "(IIILGrassPark$Cond;LGrassPark$Cond;)V" } : Jvm.MethodName)) ∈ lw_all := lw_g (lw_at lw_m4 168 rfl) rfl
theorem q1024 : (Jvm.Cond.stringRef "GrassPark$Reader" (192 : Nat) "and") ∈ lw_tbl := lw_at lw_m4 188 rfl
theorem q1025 : (Jvm.Cond.stringRef "GrassPark$Reader" (182 : Nat) "or") ∈ lw_tbl := lw_at lw_m4 189 rfl
theorem q1026 : (Jvm.Cond.methodLink "GrassPark$Reader" (149 : Nat) ({ cls := "GrassPark$Line", name := "<init>", desc := "(IILGrassPark$Cond;)V" } : Jvm.MethodName)) ∈ lw_all := lw_g (lw_at lw_m4 190 rfl) rfl
theorem q1046 : (Jvm.Cond.methodLink "GrassPark$Reader" (152 : Nat) ({ cls := "java/util/ArrayList", name := "add", desc := "(Ljava/lang/Object;)Z" } : Jvm.MethodName)) ∈ lw_all := lw_g (lw_at lw_m4 210 rfl) rfl
theorem q1076 : (Jvm.Cond.selects "GrassPark$Reader" ({ cls := "java/lang/Object", name := "getClass", desc := "()Ljava/lang/Class;" } : Jvm.MethodName) ({ cls := "java/lang/Object", name := "getClass", desc := "()Ljava/lang/Class;" } : Jvm.MethodName)) ∈ lw_all := lw_g (lw_at lw_m5 0 rfl) rfl
theorem q1094 : (Jvm.Cond.methodLink "GrassPark$Reader" (157 : Nat) ({ cls := "GrassPark$Reader", name := "end", desc := "()V" } : Jvm.MethodName)) ∈ lw_all := lw_g (lw_at lw_m5 18 rfl) rfl
theorem q1095 : (Jvm.Cond.privateMethod ({ cls := "GrassPark$Reader", name := "end", desc := "()V" } : Jvm.MethodName)) ∈ lw_tbl := lw_at lw_m5 19 rfl
theorem q1096 : (Jvm.Cond.instanceMethod ({ cls := "GrassPark$Reader", name := "end", desc := "()V" } : Jvm.MethodName)) ∈ lw_all := lw_g (lw_at lw_m5 20 rfl) rfl
theorem q1097 : (Jvm.Cond.code ({ cls := "GrassPark$Reader", name := "end", desc := "()V" } : Jvm.MethodName) prog_8_method_10_code (1 : Nat) (Option.none : Option Jvm.ClassFile.FieldType)) ∈ lw_all := lw_g (lw_at lw_m5 21 rfl) rfl
theorem q1106 : (Jvm.Cond.instanceMethod ({ cls := "GrassPark$Reader", name := "readHabit", desc := "()LGrassPark$Habit;" } : Jvm.MethodName)) ∈ lw_all := lw_g (lw_at lw_m5 30 rfl) rfl
theorem q1107 : (Jvm.Cond.selects "GrassPark$Reader" ({ cls := "GrassPark$Reader", name := "readHabit", desc := "()LGrassPark$Habit;" } : Jvm.MethodName) ({ cls := "GrassPark$Reader", name := "readHabit", desc := "()LGrassPark$Habit;" } : Jvm.MethodName)) ∈ lw_all := lw_g (lw_at lw_m5 31 rfl) rfl
theorem q1108 : (Jvm.Cond.code ({ cls := "GrassPark$Reader", name := "readHabit", desc := "()LGrassPark$Habit;" } : Jvm.MethodName) prog_8_method_14_code (6 : Nat) (Option.some (Jvm.ClassFile.FieldType.object "GrassPark$Habit"))) ∈ lw_all := lw_g (lw_at lw_m5 32 rfl) rfl
theorem q1109 : (Jvm.Cond.classLink "GrassPark$Reader" (160 : Nat) "GrassPark$Habit") ∈ lw_all := lw_g (lw_at lw_m5 33 rfl) rfl
theorem q1110 : (Jvm.Cond.methodLinkNest "GrassPark$Reader" (162 : Nat) ({ cls := "GrassPark$Habit", name := "<init>", desc := "()V" } : Jvm.MethodName) "GrassPark") ∈ lw_tbl := lw_at lw_m5 34 rfl
theorem q1111 : (Jvm.Cond.stringRef "GrassPark$Reader" (163 : Nat) "weigh") ∈ lw_tbl := lw_at lw_m5 35 rfl
theorem q1112 : (Jvm.Cond.stringRef "GrassPark$Reader" (165 : Nat) "sight") ∈ lw_tbl := lw_at lw_m5 36 rfl
theorem q1113 : (Jvm.Cond.stringRef "GrassPark$Reader" (167 : Nat) "never") ∈ lw_tbl := lw_at lw_m5 37 rfl
theorem q1114 : (Jvm.Cond.stringRef "GrassPark$Reader" (169 : Nat) "green wet climb crowd turn come line ") ∈ lw_tbl := lw_at lw_m5 38 rfl
theorem q2289 : (Jvm.Cond.castable "GrassPark$Reader" "java/lang/Object") ∈ lw_tbl := lw_at lw_m10 13 rfl
theorem in_X6 : ∀ w ∈ wsX60, w ∈ lw_all := lw_in wsX60 [470, 472, 474, 476, 478, 480, 482, 484, 486, 488, 490, 492] (by decide +kernel) (by decide +kernel)
/-! GrassPark$Fault -/
set_option maxRecDepth 100000
def RX7 : String := "GrassPark$Fault"
def TX7 : u_T := fun k => match k with
  | 0 => ("java/lang/Throwable", "cause", "Ljava/lang/Throwable;", false)
  | 1 => ("java/lang/Throwable", "stackTrace", "[Ljava/lang/StackTraceElement;", false)
  | 2 => ("java/lang/Throwable", "suppressedExceptions", "Ljava/util/List;", false)
  | 3 => ("java/lang/Throwable", "detailMessage", "Ljava/lang/String;", false)
  | 4 => ("java/lang/Throwable", "backtrace", "Ljava/lang/Object;", false)
  | 5 => ("java/lang/Throwable", "depth", "I", false)
  | 6 => ("GrassPark$Fault", "kind", "I", true)
  | _ => ("GrassPark$Fault", "place", "I", true)
def tyX7 : Nat → FieldType := fun k => match k with
  | 0 => .object "java/lang/Throwable"
  | 1 => .array (.object "java/lang/StackTraceElement")
  | 2 => .object "java/util/List"
  | 3 => .object "java/lang/String"
  | 4 => .object "java/lang/Object"
  | 5 => .int
  | 6 => .int
  | _ => .int
abbrev wsX70 : List Cond := u_ws RX7 TX7 8
theorem nmX7 : ∀ a, a < 8 → ∀ b, b < 8 → a ≠ b → (TX7 a).2.1 ≠ (TX7 b).2.1 := by decide +kernel
theorem tyX7_ok : ∀ k, k < 8 → parseFieldDescriptor (TX7 k).2.2.1 = some (tyX7 k) := by decide +kernel
abbrev cX7_init : ByteArray := prog_3_method_1_code
def yX7_init : MethodName := ⟨RX7, "<init>", "(II)V"⟩
def dkwX7_init_0 : List UInt8 := [42, 183, 0, 1, 42, 27, 181, 0, 7, 42, 28, 181, 0, 13, 177]
abbrev dktX7_init_0 : List UInt8 := dkwX7_init_0 ++ []
theorem dksX7_init_0 : cX7_init.data.toList.drop 0 = dktX7_init_0 := by decide +kernel
theorem dX7_init_0 : decode cX7_init 0 = .ok (.aload_n 0, 1) := dk_42 (dk_at dksX7_init_0 0 rfl rfl)
theorem dX7_init_1 : decode cX7_init 1 = .ok (.invokespecial 1, 3) := dk_183 0 1 (dk_at dksX7_init_0 1 rfl rfl)
theorem dX7_init_4 : decode cX7_init 4 = .ok (.aload_n 0, 1) := dk_42 (dk_at dksX7_init_0 4 rfl rfl)
theorem dX7_init_5 : decode cX7_init 5 = .ok (.iload_n 1, 1) := dk_27 (dk_at dksX7_init_0 5 rfl rfl)
theorem dX7_init_6 : decode cX7_init 6 = .ok (.putfield 7, 3) := dk_181 0 7 (dk_at dksX7_init_0 6 rfl rfl)
theorem dX7_init_9 : decode cX7_init 9 = .ok (.aload_n 0, 1) := dk_42 (dk_at dksX7_init_0 9 rfl rfl)
theorem dX7_init_10 : decode cX7_init 10 = .ok (.iload_n 2, 1) := dk_28 (dk_at dksX7_init_0 10 rfl rfl)
theorem dX7_init_11 : decode cX7_init 11 = .ok (.putfield 13, 3) := dk_181 0 13 (dk_at dksX7_init_0 11 rfl rfl)
theorem dX7_init_14 : decode cX7_init 14 = .ok (.return_, 1) := dk_177 (dk_at dksX7_init_0 14 rfl rfl)
theorem q144 : (Jvm.Cond.initialized "GrassPark$Fault") ∈ lw_all := lw_g (lw_at lw_m1 28 rfl) rfl
theorem q904 : (Jvm.Cond.instantiable "GrassPark$Fault" (8 : Nat)) ∈ lw_all := lw_g (lw_at lw_m4 68 rfl) rfl
theorem q905 : (Jvm.Cond.castable "GrassPark$Fault" "GrassPark$Fault") ∈ lw_tbl := lw_at lw_m4 69 rfl
theorem q910 : (Jvm.Cond.selects "GrassPark$Fault" ({ cls := "java/lang/Throwable", name := "fillInStackTrace", desc := "(I)Ljava/lang/Throwable;" } : Jvm.MethodName) ({ cls := "java/lang/Throwable", name := "fillInStackTrace", desc := "(I)Ljava/lang/Throwable;" } : Jvm.MethodName)) ∈ lw_all := lw_g (lw_at lw_m4 74 rfl) rfl
theorem q911 : (Jvm.Cond.selects "GrassPark$Fault" ({ cls := "java/lang/Throwable", name := "fillInStackTrace", desc := "()Ljava/lang/Throwable;" } : Jvm.MethodName) ({ cls := "java/lang/Throwable", name := "fillInStackTrace", desc := "()Ljava/lang/Throwable;" } : Jvm.MethodName)) ∈ lw_all := lw_g (lw_at lw_m4 75 rfl) rfl
theorem q912 : (Jvm.Cond.lays "GrassPark$Fault" "java/lang/Throwable" "cause" "Ljava/lang/Throwable;") ∈ lw_all := lw_g (lw_at lw_m4 76 rfl) rfl
theorem q914 : (Jvm.Cond.lays "GrassPark$Fault" "java/lang/Throwable" "stackTrace" "[Ljava/lang/StackTraceElement;") ∈ lw_all := lw_g (lw_at lw_m4 78 rfl) rfl
theorem q916 : (Jvm.Cond.lays "GrassPark$Fault" "java/lang/Throwable" "suppressedExceptions" "Ljava/util/List;") ∈ lw_all := lw_g (lw_at lw_m4 80 rfl) rfl
theorem q918 : (Jvm.Cond.lays "GrassPark$Fault" "java/lang/Throwable" "detailMessage" "Ljava/lang/String;") ∈ lw_all := lw_g (lw_at lw_m4 82 rfl) rfl
theorem q920 : (Jvm.Cond.lays "GrassPark$Fault" "java/lang/Throwable" "backtrace" "Ljava/lang/Object;") ∈ lw_all := lw_g (lw_at lw_m4 84 rfl) rfl
theorem q942 : (Jvm.Cond.instanceMethod ({ cls := "GrassPark$Fault", name := "<init>", desc := "(II)V" } : Jvm.MethodName)) ∈ lw_all := lw_g (lw_at lw_m4 106 rfl) rfl
theorem q943 : (Jvm.Cond.code ({ cls := "GrassPark$Fault", name := "<init>", desc := "(II)V" } : Jvm.MethodName) prog_3_method_1_code (3 : Nat) (Option.none : Option Jvm.ClassFile.FieldType)) ∈ lw_all := lw_g (lw_at lw_m4 107 rfl) rfl
theorem q944 : (Jvm.Cond.methodLink "GrassPark$Fault" (1 : Nat) ({ cls := "java/lang/Exception", name := "<init>", desc := "()V" } : Jvm.MethodName)) ∈ lw_all := lw_g (lw_at lw_m4 108 rfl) rfl
theorem q948 : (Jvm.Cond.fieldLink "GrassPark$Fault" (7 : Nat) "GrassPark$Fault" "kind" "I") ∈ lw_all := lw_g (lw_at lw_m4 112 rfl) rfl
theorem q950 : (Jvm.Cond.fieldLink "GrassPark$Fault" (13 : Nat) "GrassPark$Fault" "place" "I") ∈ lw_all := lw_g (lw_at lw_m4 114 rfl) rfl
theorem q956 : (Jvm.Cond.laysFinal "GrassPark$Fault" "GrassPark$Fault" "kind" "I") ∈ lw_all := lw_g (lw_at lw_m4 120 rfl) rfl
theorem q957 : (Jvm.Cond.soleField "GrassPark$Fault" "kind") ∈ lw_all := lw_g (lw_at lw_m4 121 rfl) rfl
theorem q958 : (Jvm.Cond.laysFinal "GrassPark$Fault" "GrassPark$Fault" "place" "I") ∈ lw_all := lw_g (lw_at lw_m4 122 rfl) rfl
theorem q959 : (Jvm.Cond.soleField "GrassPark$Fault" "place") ∈ lw_all := lw_g (lw_at lw_m4 123 rfl) rfl
theorem q964 : (Jvm.Cond.lays "GrassPark$Fault" "java/lang/Throwable" "depth" "I") ∈ lw_all := lw_g (lw_at lw_m4 128 rfl) rfl
theorem q967 : (Jvm.Cond.superclass "GrassPark$Fault" "java/lang/Exception") ∈ lw_all := lw_g (lw_at lw_m4 131 rfl) rfl
theorem q1071 : (Jvm.Cond.selects "GrassPark$Fault" ({ cls := "java/lang/Object", name := "getClass", desc := "()Ljava/lang/Class;" } : Jvm.MethodName) ({ cls := "java/lang/Object", name := "getClass", desc := "()Ljava/lang/Class;" } : Jvm.MethodName)) ∈ lw_all := lw_g (lw_at lw_m4 235 rfl) rfl
theorem q2293 : (Jvm.Cond.castable "GrassPark$Fault" "java/lang/Object") ∈ lw_tbl := lw_at lw_m10 17 rfl
theorem in_X7 : ∀ w ∈ wsX70, w ∈ lw_all := lw_in wsX70 [912, 914, 916, 918, 920, 964, 956, 958] (by decide +kernel) (by decide +kernel)
/-! GrassPark$Line -/
set_option maxRecDepth 100000
def RX8 : String := "GrassPark$Line"
def TX8 : u_T := fun k => match k with
  | 0 => ("GrassPark$Line", "what", "I", true)
  | 1 => ("GrassPark$Line", "number", "I", true)
  | _ => ("GrassPark$Line", "cond", "LGrassPark$Cond;", true)
def tyX8 : Nat → FieldType := fun k => match k with
  | 0 => .int
  | 1 => .int
  | _ => .object "GrassPark$Cond"
abbrev wsX80 : List Cond := u_ws RX8 TX8 3
theorem nmX8 : ∀ a, a < 3 → ∀ b, b < 3 → a ≠ b → (TX8 a).2.1 ≠ (TX8 b).2.1 := by decide +kernel
theorem tyX8_ok : ∀ k, k < 3 → parseFieldDescriptor (TX8 k).2.2.1 = some (tyX8 k) := by decide +kernel
abbrev cX8_init : ByteArray := prog_7_method_1_code
def yX8_init : MethodName := ⟨RX8, "<init>", "(IILGrassPark$Cond;)V"⟩
def dkwX8_init_0 : List UInt8 := [42, 183, 0, 1, 42, 27, 181, 0, 7, 42, 28, 181, 0, 13, 42, 45, 181, 0, 16, 177]
abbrev dktX8_init_0 : List UInt8 := dkwX8_init_0 ++ []
theorem dksX8_init_0 : cX8_init.data.toList.drop 0 = dktX8_init_0 := by decide +kernel
theorem dX8_init_0 : decode cX8_init 0 = .ok (.aload_n 0, 1) := dk_42 (dk_at dksX8_init_0 0 rfl rfl)
theorem dX8_init_1 : decode cX8_init 1 = .ok (.invokespecial 1, 3) := dk_183 0 1 (dk_at dksX8_init_0 1 rfl rfl)
theorem dX8_init_4 : decode cX8_init 4 = .ok (.aload_n 0, 1) := dk_42 (dk_at dksX8_init_0 4 rfl rfl)
theorem dX8_init_5 : decode cX8_init 5 = .ok (.iload_n 1, 1) := dk_27 (dk_at dksX8_init_0 5 rfl rfl)
theorem dX8_init_6 : decode cX8_init 6 = .ok (.putfield 7, 3) := dk_181 0 7 (dk_at dksX8_init_0 6 rfl rfl)
theorem dX8_init_9 : decode cX8_init 9 = .ok (.aload_n 0, 1) := dk_42 (dk_at dksX8_init_0 9 rfl rfl)
theorem dX8_init_10 : decode cX8_init 10 = .ok (.iload_n 2, 1) := dk_28 (dk_at dksX8_init_0 10 rfl rfl)
theorem dX8_init_11 : decode cX8_init 11 = .ok (.putfield 13, 3) := dk_181 0 13 (dk_at dksX8_init_0 11 rfl rfl)
theorem dX8_init_14 : decode cX8_init 14 = .ok (.aload_n 0, 1) := dk_42 (dk_at dksX8_init_0 14 rfl rfl)
theorem dX8_init_15 : decode cX8_init 15 = .ok (.aload_n 3, 1) := dk_45 (dk_at dksX8_init_0 15 rfl rfl)
theorem dX8_init_16 : decode cX8_init 16 = .ok (.putfield 16, 3) := dk_181 0 16 (dk_at dksX8_init_0 16 rfl rfl)
theorem dX8_init_19 : decode cX8_init 19 = .ok (.return_, 1) := dk_177 (dk_at dksX8_init_0 19 rfl rfl)
abbrev cX8_holds : ByteArray := prog_7_method_2_code
def yX8_holds : MethodName := ⟨RX8, "holds", "(LGrassPark$Ground;LGrassPark$Law;I)Z"⟩
def dkwX8_holds_1 : List UInt8 := [3, 172]
abbrev dktX8_holds_1 : List UInt8 := dkwX8_holds_1 ++ []
def dkwX8_holds_0 : List UInt8 := [42, 180, 0, 16, 198, 0, 16, 42, 180, 0, 16, 43, 44, 29, 182, 0, 20, 153, 0, 7, 4, 167, 0, 4]
abbrev dktX8_holds_0 : List UInt8 := dkwX8_holds_0 ++ dktX8_holds_1
theorem dksX8_holds_0 : cX8_holds.data.toList.drop 0 = dktX8_holds_0 := by decide +kernel
theorem dksX8_holds_1 : cX8_holds.data.toList.drop 24 = dktX8_holds_1 := dk_seg dksX8_holds_0 24 rfl rfl
theorem dX8_holds_0 : decode cX8_holds 0 = .ok (.aload_n 0, 1) := dk_42 (dk_at dksX8_holds_0 0 rfl rfl)
theorem dX8_holds_1 : decode cX8_holds 1 = .ok (.getfield 16, 3) := dk_180 0 16 (dk_at dksX8_holds_0 1 rfl rfl)
theorem dX8_holds_4 : decode cX8_holds 4 = .ok (.ifnull 16, 3) := dk_198 0 16 (dk_at dksX8_holds_0 4 rfl rfl)
theorem dX8_holds_7 : decode cX8_holds 7 = .ok (.aload_n 0, 1) := dk_42 (dk_at dksX8_holds_0 7 rfl rfl)
theorem dX8_holds_8 : decode cX8_holds 8 = .ok (.getfield 16, 3) := dk_180 0 16 (dk_at dksX8_holds_0 8 rfl rfl)
theorem dX8_holds_11 : decode cX8_holds 11 = .ok (.aload_n 1, 1) := dk_43 (dk_at dksX8_holds_0 11 rfl rfl)
theorem dX8_holds_12 : decode cX8_holds 12 = .ok (.aload_n 2, 1) := dk_44 (dk_at dksX8_holds_0 12 rfl rfl)
theorem dX8_holds_13 : decode cX8_holds 13 = .ok (.iload_n 3, 1) := dk_29 (dk_at dksX8_holds_0 13 rfl rfl)
theorem dX8_holds_14 : decode cX8_holds 14 = .ok (.invokevirtual 20, 3) := dk_182 0 20 (dk_at dksX8_holds_0 14 rfl rfl)
theorem dX8_holds_17 : decode cX8_holds 17 = .ok (.ifCond .eq 7, 3) := dk_153 0 7 (dk_at dksX8_holds_0 17 rfl rfl)
theorem dX8_holds_20 : decode cX8_holds 20 = .ok (.iconst 1, 1) := dk_4 (dk_at dksX8_holds_0 20 rfl rfl)
theorem dX8_holds_21 : decode cX8_holds 21 = .ok (.goto 4, 3) := dk_167 0 4 (dk_at dksX8_holds_0 21 rfl rfl)
theorem dX8_holds_24 : decode cX8_holds 24 = .ok (.iconst 0, 1) := dk_3 (dk_at dksX8_holds_1 0 rfl rfl)
theorem dX8_holds_25 : decode cX8_holds 25 = .ok (.ireturn, 1) := dk_172 (dk_at dksX8_holds_1 1 rfl rfl)
theorem q145 : (Jvm.Cond.initialized "GrassPark$Line") ∈ lw_all := lw_g (lw_at lw_m1 29 rfl) rfl
theorem q978 : (Jvm.Cond.instantiable "GrassPark$Line" (3 : Nat)) ∈ lw_all := lw_g (lw_at lw_m4 142 rfl) rfl
theorem q1027 : (Jvm.Cond.instanceMethod ({ cls := "GrassPark$Line", name := "<init>", desc := "(IILGrassPark$Cond;)V" } : Jvm.MethodName)) ∈ lw_all := lw_g (lw_at lw_m4 191 rfl) rfl
theorem q1028 : (Jvm.Cond.code ({ cls := "GrassPark$Line", name := "<init>", desc := "(IILGrassPark$Cond;)V" } : Jvm.MethodName) prog_7_method_1_code (4 : Nat) (Option.none : Option Jvm.ClassFile.FieldType)) ∈ lw_all := lw_g (lw_at lw_m4 192 rfl) rfl
theorem q1029 : (Jvm.Cond.methodLink "GrassPark$Line" (1 : Nat) ({ cls := "java/lang/Object", name := "<init>", desc := "()V" } : Jvm.MethodName)) ∈ lw_all := lw_g (lw_at lw_m4 193 rfl) rfl
theorem q1030 : (Jvm.Cond.fieldLink "GrassPark$Line" (7 : Nat) "GrassPark$Line" "what" "I") ∈ lw_all := lw_g (lw_at lw_m4 194 rfl) rfl
theorem q1034 : (Jvm.Cond.fieldLink "GrassPark$Line" (13 : Nat) "GrassPark$Line" "number" "I") ∈ lw_all := lw_g (lw_at lw_m4 198 rfl) rfl
theorem q1037 : (Jvm.Cond.fieldLink "GrassPark$Line" (16 : Nat) "GrassPark$Line" "cond" "LGrassPark$Cond;") ∈ lw_all := lw_g (lw_at lw_m4 201 rfl) rfl
theorem q1039 : (Jvm.Cond.laysFinal "GrassPark$Line" "GrassPark$Line" "what" "I") ∈ lw_all := lw_g (lw_at lw_m4 203 rfl) rfl
theorem q1040 : (Jvm.Cond.soleField "GrassPark$Line" "what") ∈ lw_all := lw_g (lw_at lw_m4 204 rfl) rfl
theorem q1041 : (Jvm.Cond.laysFinal "GrassPark$Line" "GrassPark$Line" "number" "I") ∈ lw_all := lw_g (lw_at lw_m4 205 rfl) rfl
theorem q1042 : (Jvm.Cond.soleField "GrassPark$Line" "number") ∈ lw_all := lw_g (lw_at lw_m4 206 rfl) rfl
theorem q1043 : (Jvm.Cond.laysFinal "GrassPark$Line" "GrassPark$Line" "cond" "LGrassPark$Cond;") ∈ lw_all := lw_g (lw_at lw_m4 207 rfl) rfl
theorem q1044 : (Jvm.Cond.soleField "GrassPark$Line" "cond") ∈ lw_all := lw_g (lw_at lw_m4 208 rfl) rfl
theorem q1045 : (Jvm.Cond.superclass "GrassPark$Line" "java/lang/Object") ∈ lw_all := lw_g (lw_at lw_m4 209 rfl) rfl
theorem q1075 : (Jvm.Cond.selects "GrassPark$Line" ({ cls := "java/lang/Object", name := "getClass", desc := "()Ljava/lang/Class;" } : Jvm.MethodName) ({ cls := "java/lang/Object", name := "getClass", desc := "()Ljava/lang/Class;" } : Jvm.MethodName)) ∈ lw_all := lw_g (lw_at lw_m4 239 rfl) rfl
theorem q1298 : (Jvm.Cond.instanceMethod ({ cls := "GrassPark$Line", name := "holds", desc := "(LGrassPark$Ground;LGrassPark$Law;I)Z" } : Jvm.MethodName)) ∈ lw_all := lw_g (lw_at lw_m5 222 rfl) rfl
theorem q1299 : (Jvm.Cond.selects "GrassPark$Line" ({ cls := "GrassPark$Line", name := "holds", desc := "(LGrassPark$Ground;LGrassPark$Law;I)Z" } : Jvm.MethodName) ({ cls := "GrassPark$Line", name := "holds", desc := "(LGrassPark$Ground;LGrassPark$Law;I)Z" } : Jvm.MethodName)) ∈ lw_all := lw_g (lw_at lw_m5 223 rfl) rfl
theorem q1300 : (Jvm.Cond.code ({ cls := "GrassPark$Line", name := "holds", desc := "(LGrassPark$Ground;LGrassPark$Law;I)Z" } : Jvm.MethodName) prog_7_method_2_code (4 : Nat) (Option.some Jvm.ClassFile.FieldType.boolean)) ∈ lw_all := lw_g (lw_at lw_m5 224 rfl) rfl
theorem q1301 : (Jvm.Cond.methodLink "GrassPark$Line" (20 : Nat) ({ cls := "GrassPark$Cond", name := "holds", desc := "(LGrassPark$Ground;LGrassPark$Law;I)Z" } : Jvm.MethodName)) ∈ lw_all := lw_g (lw_at lw_m5 225 rfl) rfl
theorem q2294 : (Jvm.Cond.castable "GrassPark$Line" "java/lang/Object") ∈ lw_tbl := lw_at lw_m10 18 rfl
theorem in_X8 : ∀ w ∈ wsX80, w ∈ lw_all := lw_in wsX80 [1039, 1041, 1043] (by decide +kernel) (by decide +kernel)
/-! GrassPark$Cond -/
set_option maxRecDepth 100000
def RX9 : String := "GrassPark$Cond"
def TX9 : u_T := fun k => match k with
  | 0 => ("GrassPark$Cond", "what", "I", true)
  | 1 => ("GrassPark$Cond", "sign", "I", true)
  | 2 => ("GrassPark$Cond", "number", "I", true)
  | 3 => ("GrassPark$Cond", "left", "LGrassPark$Cond;", true)
  | _ => ("GrassPark$Cond", "right", "LGrassPark$Cond;", true)
def tyX9 : Nat → FieldType := fun k => match k with
  | 0 => .int
  | 1 => .int
  | 2 => .int
  | 3 => .object "GrassPark$Cond"
  | _ => .object "GrassPark$Cond"
abbrev wsX90 : List Cond := u_ws RX9 TX9 5
theorem nmX9 : ∀ a, a < 5 → ∀ b, b < 5 → a ≠ b → (TX9 a).2.1 ≠ (TX9 b).2.1 := by decide +kernel
theorem tyX9_ok : ∀ k, k < 5 → parseFieldDescriptor (TX9 k).2.2.1 = some (tyX9 k) := by decide +kernel
abbrev cX9_init : ByteArray := prog_2_method_1_code
def yX9_init : MethodName := ⟨RX9, "<init>", "(IIILGrassPark$Cond;LGrassPark$Cond;)V"⟩
def dkwX9_init_1 : List UInt8 := [181, 0, 21, 42, 25, 5, 181, 0, 25, 177]
abbrev dktX9_init_1 : List UInt8 := dkwX9_init_1 ++ []
def dkwX9_init_0 : List UInt8 := [42, 183, 0, 3, 42, 27, 181, 0, 9, 42, 28, 181, 0, 15, 42, 29, 181, 0, 18, 42, 25, 4]
abbrev dktX9_init_0 : List UInt8 := dkwX9_init_0 ++ dktX9_init_1
theorem dksX9_init_0 : cX9_init.data.toList.drop 0 = dktX9_init_0 := by decide +kernel
theorem dksX9_init_1 : cX9_init.data.toList.drop 22 = dktX9_init_1 := dk_seg dksX9_init_0 22 rfl rfl
theorem dX9_init_0 : decode cX9_init 0 = .ok (.aload_n 0, 1) := dk_42 (dk_at dksX9_init_0 0 rfl rfl)
theorem dX9_init_1 : decode cX9_init 1 = .ok (.invokespecial 3, 3) := dk_183 0 3 (dk_at dksX9_init_0 1 rfl rfl)
theorem dX9_init_4 : decode cX9_init 4 = .ok (.aload_n 0, 1) := dk_42 (dk_at dksX9_init_0 4 rfl rfl)
theorem dX9_init_5 : decode cX9_init 5 = .ok (.iload_n 1, 1) := dk_27 (dk_at dksX9_init_0 5 rfl rfl)
theorem dX9_init_6 : decode cX9_init 6 = .ok (.putfield 9, 3) := dk_181 0 9 (dk_at dksX9_init_0 6 rfl rfl)
theorem dX9_init_9 : decode cX9_init 9 = .ok (.aload_n 0, 1) := dk_42 (dk_at dksX9_init_0 9 rfl rfl)
theorem dX9_init_10 : decode cX9_init 10 = .ok (.iload_n 2, 1) := dk_28 (dk_at dksX9_init_0 10 rfl rfl)
theorem dX9_init_11 : decode cX9_init 11 = .ok (.putfield 15, 3) := dk_181 0 15 (dk_at dksX9_init_0 11 rfl rfl)
theorem dX9_init_14 : decode cX9_init 14 = .ok (.aload_n 0, 1) := dk_42 (dk_at dksX9_init_0 14 rfl rfl)
theorem dX9_init_15 : decode cX9_init 15 = .ok (.iload_n 3, 1) := dk_29 (dk_at dksX9_init_0 15 rfl rfl)
theorem dX9_init_16 : decode cX9_init 16 = .ok (.putfield 18, 3) := dk_181 0 18 (dk_at dksX9_init_0 16 rfl rfl)
theorem dX9_init_19 : decode cX9_init 19 = .ok (.aload_n 0, 1) := dk_42 (dk_at dksX9_init_0 19 rfl rfl)
theorem dX9_init_20 : decode cX9_init 20 = .ok (.aload 4, 2) := dk_25 4 (dk_at dksX9_init_0 20 rfl rfl)
theorem dX9_init_22 : decode cX9_init 22 = .ok (.putfield 21, 3) := dk_181 0 21 (dk_at dksX9_init_1 0 rfl rfl)
theorem dX9_init_25 : decode cX9_init 25 = .ok (.aload_n 0, 1) := dk_42 (dk_at dksX9_init_1 3 rfl rfl)
theorem dX9_init_26 : decode cX9_init 26 = .ok (.aload 5, 2) := dk_25 5 (dk_at dksX9_init_1 4 rfl rfl)
theorem dX9_init_28 : decode cX9_init 28 = .ok (.putfield 25, 3) := dk_181 0 25 (dk_at dksX9_init_1 6 rfl rfl)
theorem dX9_init_31 : decode cX9_init 31 = .ok (.return_, 1) := dk_177 (dk_at dksX9_init_1 9 rfl rfl)
abbrev cX9_holds : ByteArray := prog_2_method_2_code
def yX9_holds : MethodName := ⟨RX9, "holds", "(LGrassPark$Ground;LGrassPark$Law;I)Z"⟩
def dkwX9_holds_11 : List UInt8 := [180, 0, 54, 29, 46, 167, 0, 9, 43, 180, 0, 57, 29, 46, 182, 0, 60, 172]
abbrev dktX9_holds_11 : List UInt8 := dkwX9_holds_11 ++ []
def dkwX9_holds_10 : List UInt8 := [160, 0, 12, 43, 180, 0, 51, 29, 46, 167, 0, 27, 42, 180, 0, 9, 16, 12, 160, 0, 12, 43]
abbrev dktX9_holds_10 : List UInt8 := dkwX9_holds_10 ++ dktX9_holds_11
def dkwX9_holds_9 : List UInt8 := [180, 0, 9, 16, 10, 160, 0, 12, 43, 180, 0, 48, 29, 46, 167, 0, 45, 42, 180, 0, 9, 16, 11]
abbrev dktX9_holds_9 : List UInt8 := dkwX9_holds_9 ++ dktX9_holds_10
def dkwX9_holds_8 : List UInt8 := [43, 180, 0, 38, 29, 51, 172, 43, 44, 29, 182, 0, 41, 172, 43, 44, 29, 182, 0, 45, 172, 42, 42]
abbrev dktX9_holds_8 : List UInt8 := dkwX9_holds_8 ++ dktX9_holds_9
def dkwX9_holds_7 : List UInt8 := [170, 0, 0, 0, 0, 47, 0, 0, 0, 7, 0, 0, 0, 9, 0, 0, 0, 26, 0, 0, 0, 33, 0, 0, 0, 40]
abbrev dktX9_holds_7 : List UInt8 := dkwX9_holds_7 ++ dktX9_holds_8
def dkwX9_holds_6 : List UInt8 := [180, 0, 9]
abbrev dktX9_holds_6 : List UInt8 := dkwX9_holds_6 ++ dktX9_holds_7
def dkwX9_holds_5 : List UInt8 := [162, 0, 22, 43, 180, 0, 32, 29, 46, 42, 180, 0, 9, 160, 0, 7, 4, 167, 0, 4, 3, 172, 42]
abbrev dktX9_holds_5 : List UInt8 := dkwX9_holds_5 ++ dktX9_holds_6
def dkwX9_holds_4 : List UInt8 := [180, 0, 25, 43, 44, 29, 182, 0, 28, 153, 0, 7, 4, 167, 0, 4, 3, 172, 42, 180, 0, 9, 16, 7]
abbrev dktX9_holds_4 : List UInt8 := dkwX9_holds_4 ++ dktX9_holds_5
def dkwX9_holds_3 : List UInt8 := [180, 0, 9, 16, 16, 160, 0, 35, 42, 180, 0, 21, 43, 44, 29, 182, 0, 28, 154, 0, 16, 42]
abbrev dktX9_holds_3 : List UInt8 := dkwX9_holds_3 ++ dktX9_holds_4
def dkwX9_holds_2 : List UInt8 := [153, 0, 20, 42, 180, 0, 25, 43, 44, 29, 182, 0, 28, 153, 0, 7, 4, 167, 0, 4, 3, 172, 42]
abbrev dktX9_holds_2 : List UInt8 := dkwX9_holds_2 ++ dktX9_holds_3
def dkwX9_holds_1 : List UInt8 := [167, 0, 4, 3, 172, 42, 180, 0, 9, 16, 15, 160, 0, 35, 42, 180, 0, 21, 43, 44, 29, 182, 0, 28]
abbrev dktX9_holds_1 : List UInt8 := dkwX9_holds_1 ++ dktX9_holds_2
def dkwX9_holds_0 : List UInt8 := [42, 180, 0, 9, 16, 14, 160, 0, 22, 42, 180, 0, 21, 43, 44, 29, 182, 0, 28, 154, 0, 7, 4]
abbrev dktX9_holds_0 : List UInt8 := dkwX9_holds_0 ++ dktX9_holds_1
theorem dksX9_holds_0 : cX9_holds.data.toList.drop 0 = dktX9_holds_0 := by decide +kernel
theorem dksX9_holds_1 : cX9_holds.data.toList.drop 23 = dktX9_holds_1 := dk_seg dksX9_holds_0 23 rfl rfl
theorem dksX9_holds_2 : cX9_holds.data.toList.drop 47 = dktX9_holds_2 := dk_seg dksX9_holds_1 24 rfl rfl
theorem dksX9_holds_3 : cX9_holds.data.toList.drop 70 = dktX9_holds_3 := dk_seg dksX9_holds_2 23 rfl rfl
theorem dksX9_holds_4 : cX9_holds.data.toList.drop 92 = dktX9_holds_4 := dk_seg dksX9_holds_3 22 rfl rfl
theorem dksX9_holds_5 : cX9_holds.data.toList.drop 116 = dktX9_holds_5 := dk_seg dksX9_holds_4 24 rfl rfl
theorem dksX9_holds_6 : cX9_holds.data.toList.drop 139 = dktX9_holds_6 := dk_seg dksX9_holds_5 23 rfl rfl
theorem dksX9_holds_7 : cX9_holds.data.toList.drop 142 = dktX9_holds_7 := dk_seg dksX9_holds_6 3 rfl rfl
theorem dksX9_holds_8 : cX9_holds.data.toList.drop 168 = dktX9_holds_8 := dk_seg dksX9_holds_7 26 rfl rfl
theorem dksX9_holds_9 : cX9_holds.data.toList.drop 191 = dktX9_holds_9 := dk_seg dksX9_holds_8 23 rfl rfl
theorem dksX9_holds_10 : cX9_holds.data.toList.drop 214 = dktX9_holds_10 := dk_seg dksX9_holds_9 23 rfl rfl
theorem dksX9_holds_11 : cX9_holds.data.toList.drop 236 = dktX9_holds_11 := dk_seg dksX9_holds_10 22 rfl rfl
theorem dX9_holds_0 : decode cX9_holds 0 = .ok (.aload_n 0, 1) := dk_42 (dk_at dksX9_holds_0 0 rfl rfl)
theorem dX9_holds_1 : decode cX9_holds 1 = .ok (.getfield 9, 3) := dk_180 0 9 (dk_at dksX9_holds_0 1 rfl rfl)
theorem dX9_holds_4 : decode cX9_holds 4 = .ok (.bipush 14, 2) := dk_16 14 (dk_at dksX9_holds_0 4 rfl rfl)
theorem dX9_holds_6 : decode cX9_holds 6 = .ok (.if_icmp .ne 22, 3) := dk_160 0 22 (dk_at dksX9_holds_0 6 rfl rfl)
theorem dX9_holds_9 : decode cX9_holds 9 = .ok (.aload_n 0, 1) := dk_42 (dk_at dksX9_holds_0 9 rfl rfl)
theorem dX9_holds_10 : decode cX9_holds 10 = .ok (.getfield 21, 3) := dk_180 0 21 (dk_at dksX9_holds_0 10 rfl rfl)
theorem dX9_holds_13 : decode cX9_holds 13 = .ok (.aload_n 1, 1) := dk_43 (dk_at dksX9_holds_0 13 rfl rfl)
theorem dX9_holds_14 : decode cX9_holds 14 = .ok (.aload_n 2, 1) := dk_44 (dk_at dksX9_holds_0 14 rfl rfl)
theorem dX9_holds_15 : decode cX9_holds 15 = .ok (.iload_n 3, 1) := dk_29 (dk_at dksX9_holds_0 15 rfl rfl)
theorem dX9_holds_16 : decode cX9_holds 16 = .ok (.invokevirtual 28, 3) := dk_182 0 28 (dk_at dksX9_holds_0 16 rfl rfl)
theorem dX9_holds_19 : decode cX9_holds 19 = .ok (.ifCond .ne 7, 3) := dk_154 0 7 (dk_at dksX9_holds_0 19 rfl rfl)
theorem dX9_holds_22 : decode cX9_holds 22 = .ok (.iconst 1, 1) := dk_4 (dk_at dksX9_holds_0 22 rfl rfl)
theorem dX9_holds_23 : decode cX9_holds 23 = .ok (.goto 4, 3) := dk_167 0 4 (dk_at dksX9_holds_1 0 rfl rfl)
theorem dX9_holds_26 : decode cX9_holds 26 = .ok (.iconst 0, 1) := dk_3 (dk_at dksX9_holds_1 3 rfl rfl)
theorem dX9_holds_27 : decode cX9_holds 27 = .ok (.ireturn, 1) := dk_172 (dk_at dksX9_holds_1 4 rfl rfl)
theorem dX9_holds_28 : decode cX9_holds 28 = .ok (.aload_n 0, 1) := dk_42 (dk_at dksX9_holds_1 5 rfl rfl)
theorem dX9_holds_29 : decode cX9_holds 29 = .ok (.getfield 9, 3) := dk_180 0 9 (dk_at dksX9_holds_1 6 rfl rfl)
theorem dX9_holds_32 : decode cX9_holds 32 = .ok (.bipush 15, 2) := dk_16 15 (dk_at dksX9_holds_1 9 rfl rfl)
theorem dX9_holds_34 : decode cX9_holds 34 = .ok (.if_icmp .ne 35, 3) := dk_160 0 35 (dk_at dksX9_holds_1 11 rfl rfl)
theorem dX9_holds_37 : decode cX9_holds 37 = .ok (.aload_n 0, 1) := dk_42 (dk_at dksX9_holds_1 14 rfl rfl)
theorem dX9_holds_38 : decode cX9_holds 38 = .ok (.getfield 21, 3) := dk_180 0 21 (dk_at dksX9_holds_1 15 rfl rfl)
theorem dX9_holds_41 : decode cX9_holds 41 = .ok (.aload_n 1, 1) := dk_43 (dk_at dksX9_holds_1 18 rfl rfl)
theorem dX9_holds_42 : decode cX9_holds 42 = .ok (.aload_n 2, 1) := dk_44 (dk_at dksX9_holds_1 19 rfl rfl)
theorem dX9_holds_43 : decode cX9_holds 43 = .ok (.iload_n 3, 1) := dk_29 (dk_at dksX9_holds_1 20 rfl rfl)
theorem dX9_holds_44 : decode cX9_holds 44 = .ok (.invokevirtual 28, 3) := dk_182 0 28 (dk_at dksX9_holds_1 21 rfl rfl)
theorem dX9_holds_47 : decode cX9_holds 47 = .ok (.ifCond .eq 20, 3) := dk_153 0 20 (dk_at dksX9_holds_2 0 rfl rfl)
theorem dX9_holds_50 : decode cX9_holds 50 = .ok (.aload_n 0, 1) := dk_42 (dk_at dksX9_holds_2 3 rfl rfl)
theorem dX9_holds_51 : decode cX9_holds 51 = .ok (.getfield 25, 3) := dk_180 0 25 (dk_at dksX9_holds_2 4 rfl rfl)
theorem dX9_holds_54 : decode cX9_holds 54 = .ok (.aload_n 1, 1) := dk_43 (dk_at dksX9_holds_2 7 rfl rfl)
theorem dX9_holds_55 : decode cX9_holds 55 = .ok (.aload_n 2, 1) := dk_44 (dk_at dksX9_holds_2 8 rfl rfl)
theorem dX9_holds_56 : decode cX9_holds 56 = .ok (.iload_n 3, 1) := dk_29 (dk_at dksX9_holds_2 9 rfl rfl)
theorem dX9_holds_57 : decode cX9_holds 57 = .ok (.invokevirtual 28, 3) := dk_182 0 28 (dk_at dksX9_holds_2 10 rfl rfl)
theorem dX9_holds_60 : decode cX9_holds 60 = .ok (.ifCond .eq 7, 3) := dk_153 0 7 (dk_at dksX9_holds_2 13 rfl rfl)
theorem dX9_holds_63 : decode cX9_holds 63 = .ok (.iconst 1, 1) := dk_4 (dk_at dksX9_holds_2 16 rfl rfl)
theorem dX9_holds_64 : decode cX9_holds 64 = .ok (.goto 4, 3) := dk_167 0 4 (dk_at dksX9_holds_2 17 rfl rfl)
theorem dX9_holds_67 : decode cX9_holds 67 = .ok (.iconst 0, 1) := dk_3 (dk_at dksX9_holds_2 20 rfl rfl)
theorem dX9_holds_68 : decode cX9_holds 68 = .ok (.ireturn, 1) := dk_172 (dk_at dksX9_holds_2 21 rfl rfl)
theorem dX9_holds_69 : decode cX9_holds 69 = .ok (.aload_n 0, 1) := dk_42 (dk_at dksX9_holds_2 22 rfl rfl)
theorem dX9_holds_70 : decode cX9_holds 70 = .ok (.getfield 9, 3) := dk_180 0 9 (dk_at dksX9_holds_3 0 rfl rfl)
theorem dX9_holds_73 : decode cX9_holds 73 = .ok (.bipush 16, 2) := dk_16 16 (dk_at dksX9_holds_3 3 rfl rfl)
theorem dX9_holds_75 : decode cX9_holds 75 = .ok (.if_icmp .ne 35, 3) := dk_160 0 35 (dk_at dksX9_holds_3 5 rfl rfl)
theorem dX9_holds_78 : decode cX9_holds 78 = .ok (.aload_n 0, 1) := dk_42 (dk_at dksX9_holds_3 8 rfl rfl)
theorem dX9_holds_79 : decode cX9_holds 79 = .ok (.getfield 21, 3) := dk_180 0 21 (dk_at dksX9_holds_3 9 rfl rfl)
theorem dX9_holds_82 : decode cX9_holds 82 = .ok (.aload_n 1, 1) := dk_43 (dk_at dksX9_holds_3 12 rfl rfl)
theorem dX9_holds_83 : decode cX9_holds 83 = .ok (.aload_n 2, 1) := dk_44 (dk_at dksX9_holds_3 13 rfl rfl)
theorem dX9_holds_84 : decode cX9_holds 84 = .ok (.iload_n 3, 1) := dk_29 (dk_at dksX9_holds_3 14 rfl rfl)
theorem dX9_holds_85 : decode cX9_holds 85 = .ok (.invokevirtual 28, 3) := dk_182 0 28 (dk_at dksX9_holds_3 15 rfl rfl)
theorem dX9_holds_88 : decode cX9_holds 88 = .ok (.ifCond .ne 16, 3) := dk_154 0 16 (dk_at dksX9_holds_3 18 rfl rfl)
theorem dX9_holds_91 : decode cX9_holds 91 = .ok (.aload_n 0, 1) := dk_42 (dk_at dksX9_holds_3 21 rfl rfl)
theorem dX9_holds_92 : decode cX9_holds 92 = .ok (.getfield 25, 3) := dk_180 0 25 (dk_at dksX9_holds_4 0 rfl rfl)
theorem dX9_holds_95 : decode cX9_holds 95 = .ok (.aload_n 1, 1) := dk_43 (dk_at dksX9_holds_4 3 rfl rfl)
theorem dX9_holds_96 : decode cX9_holds 96 = .ok (.aload_n 2, 1) := dk_44 (dk_at dksX9_holds_4 4 rfl rfl)
theorem dX9_holds_97 : decode cX9_holds 97 = .ok (.iload_n 3, 1) := dk_29 (dk_at dksX9_holds_4 5 rfl rfl)
theorem dX9_holds_98 : decode cX9_holds 98 = .ok (.invokevirtual 28, 3) := dk_182 0 28 (dk_at dksX9_holds_4 6 rfl rfl)
theorem dX9_holds_101 : decode cX9_holds 101 = .ok (.ifCond .eq 7, 3) := dk_153 0 7 (dk_at dksX9_holds_4 9 rfl rfl)
theorem dX9_holds_104 : decode cX9_holds 104 = .ok (.iconst 1, 1) := dk_4 (dk_at dksX9_holds_4 12 rfl rfl)
theorem dX9_holds_105 : decode cX9_holds 105 = .ok (.goto 4, 3) := dk_167 0 4 (dk_at dksX9_holds_4 13 rfl rfl)
theorem dX9_holds_108 : decode cX9_holds 108 = .ok (.iconst 0, 1) := dk_3 (dk_at dksX9_holds_4 16 rfl rfl)
theorem dX9_holds_109 : decode cX9_holds 109 = .ok (.ireturn, 1) := dk_172 (dk_at dksX9_holds_4 17 rfl rfl)
theorem dX9_holds_110 : decode cX9_holds 110 = .ok (.aload_n 0, 1) := dk_42 (dk_at dksX9_holds_4 18 rfl rfl)
theorem dX9_holds_111 : decode cX9_holds 111 = .ok (.getfield 9, 3) := dk_180 0 9 (dk_at dksX9_holds_4 19 rfl rfl)
theorem dX9_holds_114 : decode cX9_holds 114 = .ok (.bipush 7, 2) := dk_16 7 (dk_at dksX9_holds_4 22 rfl rfl)
theorem dX9_holds_116 : decode cX9_holds 116 = .ok (.if_icmp .ge 22, 3) := dk_162 0 22 (dk_at dksX9_holds_5 0 rfl rfl)
theorem dX9_holds_119 : decode cX9_holds 119 = .ok (.aload_n 1, 1) := dk_43 (dk_at dksX9_holds_5 3 rfl rfl)
theorem dX9_holds_120 : decode cX9_holds 120 = .ok (.getfield 32, 3) := dk_180 0 32 (dk_at dksX9_holds_5 4 rfl rfl)
theorem dX9_holds_123 : decode cX9_holds 123 = .ok (.iload_n 3, 1) := dk_29 (dk_at dksX9_holds_5 7 rfl rfl)
theorem dX9_holds_124 : decode cX9_holds 124 = .ok (.iaload, 1) := dk_46 (dk_at dksX9_holds_5 8 rfl rfl)
theorem dX9_holds_125 : decode cX9_holds 125 = .ok (.aload_n 0, 1) := dk_42 (dk_at dksX9_holds_5 9 rfl rfl)
theorem dX9_holds_126 : decode cX9_holds 126 = .ok (.getfield 9, 3) := dk_180 0 9 (dk_at dksX9_holds_5 10 rfl rfl)
theorem dX9_holds_129 : decode cX9_holds 129 = .ok (.if_icmp .ne 7, 3) := dk_160 0 7 (dk_at dksX9_holds_5 13 rfl rfl)
theorem dX9_holds_132 : decode cX9_holds 132 = .ok (.iconst 1, 1) := dk_4 (dk_at dksX9_holds_5 16 rfl rfl)
theorem dX9_holds_133 : decode cX9_holds 133 = .ok (.goto 4, 3) := dk_167 0 4 (dk_at dksX9_holds_5 17 rfl rfl)
theorem dX9_holds_136 : decode cX9_holds 136 = .ok (.iconst 0, 1) := dk_3 (dk_at dksX9_holds_5 20 rfl rfl)
theorem dX9_holds_137 : decode cX9_holds 137 = .ok (.ireturn, 1) := dk_172 (dk_at dksX9_holds_5 21 rfl rfl)
theorem dX9_holds_138 : decode cX9_holds 138 = .ok (.aload_n 0, 1) := dk_42 (dk_at dksX9_holds_5 22 rfl rfl)
theorem dX9_holds_139 : decode cX9_holds 139 = .ok (.getfield 9, 3) := dk_180 0 9 (dk_at dksX9_holds_6 0 rfl rfl)
theorem dX9_holds_142 : decode cX9_holds 142 = .ok (.tableswitch 47 7 9 #[26, 33, 40], 26) := by decide +kernel
theorem dX9_holds_168 : decode cX9_holds 168 = .ok (.aload_n 1, 1) := dk_43 (dk_at dksX9_holds_8 0 rfl rfl)
theorem dX9_holds_169 : decode cX9_holds 169 = .ok (.getfield 38, 3) := dk_180 0 38 (dk_at dksX9_holds_8 1 rfl rfl)
theorem dX9_holds_172 : decode cX9_holds 172 = .ok (.iload_n 3, 1) := dk_29 (dk_at dksX9_holds_8 4 rfl rfl)
theorem dX9_holds_173 : decode cX9_holds 173 = .ok (.baload, 1) := dk_51 (dk_at dksX9_holds_8 5 rfl rfl)
theorem dX9_holds_174 : decode cX9_holds 174 = .ok (.ireturn, 1) := dk_172 (dk_at dksX9_holds_8 6 rfl rfl)
theorem dX9_holds_175 : decode cX9_holds 175 = .ok (.aload_n 1, 1) := dk_43 (dk_at dksX9_holds_8 7 rfl rfl)
theorem dX9_holds_176 : decode cX9_holds 176 = .ok (.aload_n 2, 1) := dk_44 (dk_at dksX9_holds_8 8 rfl rfl)
theorem dX9_holds_177 : decode cX9_holds 177 = .ok (.iload_n 3, 1) := dk_29 (dk_at dksX9_holds_8 9 rfl rfl)
theorem dX9_holds_178 : decode cX9_holds 178 = .ok (.invokevirtual 41, 3) := dk_182 0 41 (dk_at dksX9_holds_8 10 rfl rfl)
theorem dX9_holds_181 : decode cX9_holds 181 = .ok (.ireturn, 1) := dk_172 (dk_at dksX9_holds_8 13 rfl rfl)
theorem dX9_holds_182 : decode cX9_holds 182 = .ok (.aload_n 1, 1) := dk_43 (dk_at dksX9_holds_8 14 rfl rfl)
theorem dX9_holds_183 : decode cX9_holds 183 = .ok (.aload_n 2, 1) := dk_44 (dk_at dksX9_holds_8 15 rfl rfl)
theorem dX9_holds_184 : decode cX9_holds 184 = .ok (.iload_n 3, 1) := dk_29 (dk_at dksX9_holds_8 16 rfl rfl)
theorem dX9_holds_185 : decode cX9_holds 185 = .ok (.invokevirtual 45, 3) := dk_182 0 45 (dk_at dksX9_holds_8 17 rfl rfl)
theorem dX9_holds_188 : decode cX9_holds 188 = .ok (.ireturn, 1) := dk_172 (dk_at dksX9_holds_8 20 rfl rfl)
theorem dX9_holds_189 : decode cX9_holds 189 = .ok (.aload_n 0, 1) := dk_42 (dk_at dksX9_holds_8 21 rfl rfl)
theorem dX9_holds_190 : decode cX9_holds 190 = .ok (.aload_n 0, 1) := dk_42 (dk_at dksX9_holds_8 22 rfl rfl)
theorem dX9_holds_191 : decode cX9_holds 191 = .ok (.getfield 9, 3) := dk_180 0 9 (dk_at dksX9_holds_9 0 rfl rfl)
theorem dX9_holds_194 : decode cX9_holds 194 = .ok (.bipush 10, 2) := dk_16 10 (dk_at dksX9_holds_9 3 rfl rfl)
theorem dX9_holds_196 : decode cX9_holds 196 = .ok (.if_icmp .ne 12, 3) := dk_160 0 12 (dk_at dksX9_holds_9 5 rfl rfl)
theorem dX9_holds_199 : decode cX9_holds 199 = .ok (.aload_n 1, 1) := dk_43 (dk_at dksX9_holds_9 8 rfl rfl)
theorem dX9_holds_200 : decode cX9_holds 200 = .ok (.getfield 48, 3) := dk_180 0 48 (dk_at dksX9_holds_9 9 rfl rfl)
theorem dX9_holds_203 : decode cX9_holds 203 = .ok (.iload_n 3, 1) := dk_29 (dk_at dksX9_holds_9 12 rfl rfl)
theorem dX9_holds_204 : decode cX9_holds 204 = .ok (.iaload, 1) := dk_46 (dk_at dksX9_holds_9 13 rfl rfl)
theorem dX9_holds_205 : decode cX9_holds 205 = .ok (.goto 45, 3) := dk_167 0 45 (dk_at dksX9_holds_9 14 rfl rfl)
theorem dX9_holds_208 : decode cX9_holds 208 = .ok (.aload_n 0, 1) := dk_42 (dk_at dksX9_holds_9 17 rfl rfl)
theorem dX9_holds_209 : decode cX9_holds 209 = .ok (.getfield 9, 3) := dk_180 0 9 (dk_at dksX9_holds_9 18 rfl rfl)
theorem dX9_holds_212 : decode cX9_holds 212 = .ok (.bipush 11, 2) := dk_16 11 (dk_at dksX9_holds_9 21 rfl rfl)
theorem dX9_holds_214 : decode cX9_holds 214 = .ok (.if_icmp .ne 12, 3) := dk_160 0 12 (dk_at dksX9_holds_10 0 rfl rfl)
theorem dX9_holds_217 : decode cX9_holds 217 = .ok (.aload_n 1, 1) := dk_43 (dk_at dksX9_holds_10 3 rfl rfl)
theorem dX9_holds_218 : decode cX9_holds 218 = .ok (.getfield 51, 3) := dk_180 0 51 (dk_at dksX9_holds_10 4 rfl rfl)
theorem dX9_holds_221 : decode cX9_holds 221 = .ok (.iload_n 3, 1) := dk_29 (dk_at dksX9_holds_10 7 rfl rfl)
theorem dX9_holds_222 : decode cX9_holds 222 = .ok (.iaload, 1) := dk_46 (dk_at dksX9_holds_10 8 rfl rfl)
theorem dX9_holds_223 : decode cX9_holds 223 = .ok (.goto 27, 3) := dk_167 0 27 (dk_at dksX9_holds_10 9 rfl rfl)
theorem dX9_holds_226 : decode cX9_holds 226 = .ok (.aload_n 0, 1) := dk_42 (dk_at dksX9_holds_10 12 rfl rfl)
theorem dX9_holds_227 : decode cX9_holds 227 = .ok (.getfield 9, 3) := dk_180 0 9 (dk_at dksX9_holds_10 13 rfl rfl)
theorem dX9_holds_230 : decode cX9_holds 230 = .ok (.bipush 12, 2) := dk_16 12 (dk_at dksX9_holds_10 16 rfl rfl)
theorem dX9_holds_232 : decode cX9_holds 232 = .ok (.if_icmp .ne 12, 3) := dk_160 0 12 (dk_at dksX9_holds_10 18 rfl rfl)
theorem dX9_holds_235 : decode cX9_holds 235 = .ok (.aload_n 1, 1) := dk_43 (dk_at dksX9_holds_10 21 rfl rfl)
theorem dX9_holds_236 : decode cX9_holds 236 = .ok (.getfield 54, 3) := dk_180 0 54 (dk_at dksX9_holds_11 0 rfl rfl)
theorem dX9_holds_239 : decode cX9_holds 239 = .ok (.iload_n 3, 1) := dk_29 (dk_at dksX9_holds_11 3 rfl rfl)
theorem dX9_holds_240 : decode cX9_holds 240 = .ok (.iaload, 1) := dk_46 (dk_at dksX9_holds_11 4 rfl rfl)
theorem dX9_holds_241 : decode cX9_holds 241 = .ok (.goto 9, 3) := dk_167 0 9 (dk_at dksX9_holds_11 5 rfl rfl)
theorem dX9_holds_244 : decode cX9_holds 244 = .ok (.aload_n 1, 1) := dk_43 (dk_at dksX9_holds_11 8 rfl rfl)
theorem dX9_holds_245 : decode cX9_holds 245 = .ok (.getfield 57, 3) := dk_180 0 57 (dk_at dksX9_holds_11 9 rfl rfl)
theorem dX9_holds_248 : decode cX9_holds 248 = .ok (.iload_n 3, 1) := dk_29 (dk_at dksX9_holds_11 12 rfl rfl)
theorem dX9_holds_249 : decode cX9_holds 249 = .ok (.iaload, 1) := dk_46 (dk_at dksX9_holds_11 13 rfl rfl)
theorem dX9_holds_250 : decode cX9_holds 250 = .ok (.invokevirtual 60, 3) := dk_182 0 60 (dk_at dksX9_holds_11 14 rfl rfl)
theorem dX9_holds_253 : decode cX9_holds 253 = .ok (.ireturn, 1) := dk_172 (dk_at dksX9_holds_11 17 rfl rfl)
abbrev cX9_compares : ByteArray := prog_2_method_3_code
def yX9_compares : MethodName := ⟨RX9, "compares", "(I)Z"⟩
def dkwX9_compares_2 : List UInt8 := [3, 167, 0, 16, 27, 42, 180, 0, 18, 164, 0, 7, 4, 167, 0, 4, 3, 172]
abbrev dktX9_compares_2 : List UInt8 := dkwX9_compares_2 ++ []
def dkwX9_compares_1 : List UInt8 := [167, 0, 41, 42, 180, 0, 15, 16, 61, 160, 0, 19, 27, 42, 180, 0, 18, 160, 0, 7, 4, 167, 0, 20]
abbrev dktX9_compares_1 : List UInt8 := dkwX9_compares_1 ++ dktX9_compares_2
def dkwX9_compares_0 : List UInt8 := [42, 180, 0, 15, 16, 60, 160, 0, 19, 27, 42, 180, 0, 18, 162, 0, 7, 4, 167, 0, 45, 3]
abbrev dktX9_compares_0 : List UInt8 := dkwX9_compares_0 ++ dktX9_compares_1
theorem dksX9_compares_0 : cX9_compares.data.toList.drop 0 = dktX9_compares_0 := by decide +kernel
theorem dksX9_compares_1 : cX9_compares.data.toList.drop 22 = dktX9_compares_1 := dk_seg dksX9_compares_0 22 rfl rfl
theorem dksX9_compares_2 : cX9_compares.data.toList.drop 46 = dktX9_compares_2 := dk_seg dksX9_compares_1 24 rfl rfl
theorem dX9_compares_0 : decode cX9_compares 0 = .ok (.aload_n 0, 1) := dk_42 (dk_at dksX9_compares_0 0 rfl rfl)
theorem dX9_compares_1 : decode cX9_compares 1 = .ok (.getfield 15, 3) := dk_180 0 15 (dk_at dksX9_compares_0 1 rfl rfl)
theorem dX9_compares_4 : decode cX9_compares 4 = .ok (.bipush 60, 2) := dk_16 60 (dk_at dksX9_compares_0 4 rfl rfl)
theorem dX9_compares_6 : decode cX9_compares 6 = .ok (.if_icmp .ne 19, 3) := dk_160 0 19 (dk_at dksX9_compares_0 6 rfl rfl)
theorem dX9_compares_9 : decode cX9_compares 9 = .ok (.iload_n 1, 1) := dk_27 (dk_at dksX9_compares_0 9 rfl rfl)
theorem dX9_compares_10 : decode cX9_compares 10 = .ok (.aload_n 0, 1) := dk_42 (dk_at dksX9_compares_0 10 rfl rfl)
theorem dX9_compares_11 : decode cX9_compares 11 = .ok (.getfield 18, 3) := dk_180 0 18 (dk_at dksX9_compares_0 11 rfl rfl)
theorem dX9_compares_14 : decode cX9_compares 14 = .ok (.if_icmp .ge 7, 3) := dk_162 0 7 (dk_at dksX9_compares_0 14 rfl rfl)
theorem dX9_compares_17 : decode cX9_compares 17 = .ok (.iconst 1, 1) := dk_4 (dk_at dksX9_compares_0 17 rfl rfl)
theorem dX9_compares_18 : decode cX9_compares 18 = .ok (.goto 45, 3) := dk_167 0 45 (dk_at dksX9_compares_0 18 rfl rfl)
theorem dX9_compares_21 : decode cX9_compares 21 = .ok (.iconst 0, 1) := dk_3 (dk_at dksX9_compares_0 21 rfl rfl)
theorem dX9_compares_22 : decode cX9_compares 22 = .ok (.goto 41, 3) := dk_167 0 41 (dk_at dksX9_compares_1 0 rfl rfl)
theorem dX9_compares_25 : decode cX9_compares 25 = .ok (.aload_n 0, 1) := dk_42 (dk_at dksX9_compares_1 3 rfl rfl)
theorem dX9_compares_26 : decode cX9_compares 26 = .ok (.getfield 15, 3) := dk_180 0 15 (dk_at dksX9_compares_1 4 rfl rfl)
theorem dX9_compares_29 : decode cX9_compares 29 = .ok (.bipush 61, 2) := dk_16 61 (dk_at dksX9_compares_1 7 rfl rfl)
theorem dX9_compares_31 : decode cX9_compares 31 = .ok (.if_icmp .ne 19, 3) := dk_160 0 19 (dk_at dksX9_compares_1 9 rfl rfl)
theorem dX9_compares_34 : decode cX9_compares 34 = .ok (.iload_n 1, 1) := dk_27 (dk_at dksX9_compares_1 12 rfl rfl)
theorem dX9_compares_35 : decode cX9_compares 35 = .ok (.aload_n 0, 1) := dk_42 (dk_at dksX9_compares_1 13 rfl rfl)
theorem dX9_compares_36 : decode cX9_compares 36 = .ok (.getfield 18, 3) := dk_180 0 18 (dk_at dksX9_compares_1 14 rfl rfl)
theorem dX9_compares_39 : decode cX9_compares 39 = .ok (.if_icmp .ne 7, 3) := dk_160 0 7 (dk_at dksX9_compares_1 17 rfl rfl)
theorem dX9_compares_42 : decode cX9_compares 42 = .ok (.iconst 1, 1) := dk_4 (dk_at dksX9_compares_1 20 rfl rfl)
theorem dX9_compares_43 : decode cX9_compares 43 = .ok (.goto 20, 3) := dk_167 0 20 (dk_at dksX9_compares_1 21 rfl rfl)
theorem dX9_compares_46 : decode cX9_compares 46 = .ok (.iconst 0, 1) := dk_3 (dk_at dksX9_compares_2 0 rfl rfl)
theorem dX9_compares_47 : decode cX9_compares 47 = .ok (.goto 16, 3) := dk_167 0 16 (dk_at dksX9_compares_2 1 rfl rfl)
theorem dX9_compares_50 : decode cX9_compares 50 = .ok (.iload_n 1, 1) := dk_27 (dk_at dksX9_compares_2 4 rfl rfl)
theorem dX9_compares_51 : decode cX9_compares 51 = .ok (.aload_n 0, 1) := dk_42 (dk_at dksX9_compares_2 5 rfl rfl)
theorem dX9_compares_52 : decode cX9_compares 52 = .ok (.getfield 18, 3) := dk_180 0 18 (dk_at dksX9_compares_2 6 rfl rfl)
theorem dX9_compares_55 : decode cX9_compares 55 = .ok (.if_icmp .le 7, 3) := dk_164 0 7 (dk_at dksX9_compares_2 9 rfl rfl)
theorem dX9_compares_58 : decode cX9_compares 58 = .ok (.iconst 1, 1) := dk_4 (dk_at dksX9_compares_2 12 rfl rfl)
theorem dX9_compares_59 : decode cX9_compares 59 = .ok (.goto 4, 3) := dk_167 0 4 (dk_at dksX9_compares_2 13 rfl rfl)
theorem dX9_compares_62 : decode cX9_compares 62 = .ok (.iconst 0, 1) := dk_3 (dk_at dksX9_compares_2 16 rfl rfl)
theorem dX9_compares_63 : decode cX9_compares 63 = .ok (.ireturn, 1) := dk_172 (dk_at dksX9_compares_2 17 rfl rfl)
theorem q146 : (Jvm.Cond.initialized "GrassPark$Cond") ∈ lw_all := lw_g (lw_at lw_m1 30 rfl) rfl
theorem q209 : (Jvm.Cond.fieldLinkNest "GrassPark$Cond" (32 : Nat) "GrassPark$Ground" "kind" "[I" "GrassPark") ∈ lw_tbl := lw_at lw_m1 93 rfl
theorem q212 : (Jvm.Cond.fieldLinkNest "GrassPark$Cond" (54 : Nat) "GrassPark$Ground" "height" "[I" "GrassPark") ∈ lw_tbl := lw_at lw_m1 96 rfl
theorem q215 : (Jvm.Cond.fieldLinkNest "GrassPark$Cond" (48 : Nat) "GrassPark$Ground" "wear" "[I" "GrassPark") ∈ lw_tbl := lw_at lw_m1 99 rfl
theorem q218 : (Jvm.Cond.fieldLinkNest "GrassPark$Cond" (51 : Nat) "GrassPark$Ground" "wet" "[I" "GrassPark") ∈ lw_tbl := lw_at lw_m1 102 rfl
theorem q221 : (Jvm.Cond.fieldLinkNest "GrassPark$Cond" (57 : Nat) "GrassPark$Ground" "trod" "[I" "GrassPark") ∈ lw_tbl := lw_at lw_m1 105 rfl
theorem q228 : (Jvm.Cond.fieldLinkNest "GrassPark$Cond" (38 : Nat) "GrassPark$Ground" "sign" "[Z" "GrassPark") ∈ lw_tbl := lw_at lw_m1 112 rfl
theorem q1003 : (Jvm.Cond.instantiable "GrassPark$Cond" (5 : Nat)) ∈ lw_all := lw_g (lw_at lw_m4 167 rfl) rfl
theorem q1005 : (Jvm.Cond.instanceMethod ({ cls := "GrassPark$Cond", name := "<init>", desc := "(IIILGrassPark$Cond;LGrassPark$Cond;)V" } : Jvm.MethodName)) ∈ lw_all := lw_g (lw_at lw_m4 169 rfl) rfl
theorem q1006 : (Jvm.Cond.code ({ cls := "GrassPark$Cond", name := "<init>", desc := "(IIILGrassPark$Cond;LGrassPark$Cond;)V" } : Jvm.MethodName) prog_2_method_1_code (6 : Nat) (Option.none : Option Jvm.ClassFile.FieldType)) ∈ lw_all := lw_g (lw_at lw_m4 170 rfl) rfl
theorem q1007 : (Jvm.Cond.methodLink "GrassPark$Cond" (3 : Nat) ({ cls := "java/lang/Object", name := "<init>", desc := "()V" } : Jvm.MethodName)) ∈ lw_all := lw_g (lw_at lw_m4 171 rfl) rfl
theorem q1008 : (Jvm.Cond.fieldLink "GrassPark$Cond" (9 : Nat) "GrassPark$Cond" "what" "I") ∈ lw_all := lw_g (lw_at lw_m4 172 rfl) rfl
theorem q1009 : (Jvm.Cond.fieldLink "GrassPark$Cond" (15 : Nat) "GrassPark$Cond" "sign" "I") ∈ lw_all := lw_g (lw_at lw_m4 173 rfl) rfl
theorem q1010 : (Jvm.Cond.fieldLink "GrassPark$Cond" (18 : Nat) "GrassPark$Cond" "number" "I") ∈ lw_all := lw_g (lw_at lw_m4 174 rfl) rfl
theorem q1011 : (Jvm.Cond.fieldLink "GrassPark$Cond" (21 : Nat) "GrassPark$Cond" "left" "LGrassPark$Cond;") ∈ lw_all := lw_g (lw_at lw_m4 175 rfl) rfl
theorem q1012 : (Jvm.Cond.fieldLink "GrassPark$Cond" (25 : Nat) "GrassPark$Cond" "right" "LGrassPark$Cond;") ∈ lw_all := lw_g (lw_at lw_m4 176 rfl) rfl
theorem q1013 : (Jvm.Cond.laysFinal "GrassPark$Cond" "GrassPark$Cond" "what" "I") ∈ lw_all := lw_g (lw_at lw_m4 177 rfl) rfl
theorem q1014 : (Jvm.Cond.soleField "GrassPark$Cond" "what") ∈ lw_all := lw_g (lw_at lw_m4 178 rfl) rfl
theorem q1015 : (Jvm.Cond.laysFinal "GrassPark$Cond" "GrassPark$Cond" "sign" "I") ∈ lw_all := lw_g (lw_at lw_m4 179 rfl) rfl
theorem q1016 : (Jvm.Cond.soleField "GrassPark$Cond" "sign") ∈ lw_all := lw_g (lw_at lw_m4 180 rfl) rfl
theorem q1017 : (Jvm.Cond.laysFinal "GrassPark$Cond" "GrassPark$Cond" "number" "I") ∈ lw_all := lw_g (lw_at lw_m4 181 rfl) rfl
theorem q1018 : (Jvm.Cond.soleField "GrassPark$Cond" "number") ∈ lw_all := lw_g (lw_at lw_m4 182 rfl) rfl
theorem q1019 : (Jvm.Cond.laysFinal "GrassPark$Cond" "GrassPark$Cond" "left" "LGrassPark$Cond;") ∈ lw_all := lw_g (lw_at lw_m4 183 rfl) rfl
theorem q1020 : (Jvm.Cond.soleField "GrassPark$Cond" "left") ∈ lw_all := lw_g (lw_at lw_m4 184 rfl) rfl
theorem q1021 : (Jvm.Cond.laysFinal "GrassPark$Cond" "GrassPark$Cond" "right" "LGrassPark$Cond;") ∈ lw_all := lw_g (lw_at lw_m4 185 rfl) rfl
theorem q1022 : (Jvm.Cond.soleField "GrassPark$Cond" "right") ∈ lw_all := lw_g (lw_at lw_m4 186 rfl) rfl
theorem q1023 : (Jvm.Cond.superclass "GrassPark$Cond" "java/lang/Object") ∈ lw_all := lw_g (lw_at lw_m4 187 rfl) rfl
theorem q1070 : (Jvm.Cond.selects "GrassPark$Cond" ({ cls := "java/lang/Object", name := "getClass", desc := "()Ljava/lang/Class;" } : Jvm.MethodName) ({ cls := "java/lang/Object", name := "getClass", desc := "()Ljava/lang/Class;" } : Jvm.MethodName)) ∈ lw_all := lw_g (lw_at lw_m4 234 rfl) rfl
theorem q1302 : (Jvm.Cond.instanceMethod ({ cls := "GrassPark$Cond", name := "holds", desc := "(LGrassPark$Ground;LGrassPark$Law;I)Z" } : Jvm.MethodName)) ∈ lw_all := lw_g (lw_at lw_m5 226 rfl) rfl
theorem q1303 : (Jvm.Cond.selects "GrassPark$Cond" ({ cls := "GrassPark$Cond", name := "holds", desc := "(LGrassPark$Ground;LGrassPark$Law;I)Z" } : Jvm.MethodName) ({ cls := "GrassPark$Cond", name := "holds", desc := "(LGrassPark$Ground;LGrassPark$Law;I)Z" } : Jvm.MethodName)) ∈ lw_all := lw_g (lw_at lw_m5 227 rfl) rfl
theorem q1304 : (Jvm.Cond.code ({ cls := "GrassPark$Cond", name := "holds", desc := "(LGrassPark$Ground;LGrassPark$Law;I)Z" } : Jvm.MethodName) prog_2_method_2_code (4 : Nat) (Option.some Jvm.ClassFile.FieldType.boolean)) ∈ lw_all := lw_g (lw_at lw_m5 228 rfl) rfl
theorem q1305 : (Jvm.Cond.methodLink "GrassPark$Cond" (28 : Nat) ({ cls := "GrassPark$Cond", name := "holds", desc := "(LGrassPark$Ground;LGrassPark$Law;I)Z" } : Jvm.MethodName)) ∈ lw_all := lw_g (lw_at lw_m5 229 rfl) rfl
theorem q1306 : (Jvm.Cond.methodLink "GrassPark$Cond" (41 : Nat) ({ cls := "GrassPark$Ground", name := "isMuddy", desc := "(LGrassPark$Law;I)Z" } : Jvm.MethodName)) ∈ lw_all := lw_g (lw_at lw_m5 230 rfl) rfl
theorem q1314 : (Jvm.Cond.methodLink "GrassPark$Cond" (45 : Nat) ({ cls := "GrassPark$Ground", name := "isWorn", desc := "(LGrassPark$Law;I)Z" } : Jvm.MethodName)) ∈ lw_all := lw_g (lw_at lw_m5 238 rfl) rfl
theorem q1315 : (Jvm.Cond.methodLink "GrassPark$Cond" (60 : Nat) ({ cls := "GrassPark$Cond", name := "compares", desc := "(I)Z" } : Jvm.MethodName)) ∈ lw_all := lw_g (lw_at lw_m5 239 rfl) rfl
theorem q1316 : (Jvm.Cond.privateMethod ({ cls := "GrassPark$Cond", name := "compares", desc := "(I)Z" } : Jvm.MethodName)) ∈ lw_tbl := lw_at lw_m6 0 rfl
theorem q1317 : (Jvm.Cond.instanceMethod ({ cls := "GrassPark$Cond", name := "compares", desc := "(I)Z" } : Jvm.MethodName)) ∈ lw_all := lw_g (lw_at lw_m6 1 rfl) rfl
theorem q1318 : (Jvm.Cond.code ({ cls := "GrassPark$Cond", name := "compares", desc := "(I)Z" } : Jvm.MethodName) prog_2_method_3_code (2 : Nat) (Option.some Jvm.ClassFile.FieldType.boolean)) ∈ lw_all := lw_g (lw_at lw_m6 2 rfl) rfl
theorem q2295 : (Jvm.Cond.castable "GrassPark$Cond" "java/lang/Object") ∈ lw_tbl := lw_at lw_m10 19 rfl
theorem in_X9 : ∀ w ∈ wsX90, w ∈ lw_all := lw_in wsX90 [1013, 1015, 1017, 1019, 1021] (by decide +kernel) (by decide +kernel)
/-! GrassPark$Wish -/
set_option maxRecDepth 100000
def RX10 : String := "GrassPark$Wish"
def TX10 : u_T := fun k => match k with
  | 0 => ("GrassPark$Wish", "from", "I", false)
  | 1 => ("GrassPark$Wish", "to", "I", false)
  | 2 => ("GrassPark$Wish", "habit", "I", false)
  | 3 => ("GrassPark$Wish", "every", "I", false)
  | 4 => ("GrassPark$Wish", "first", "I", false)
  | _ => ("GrassPark$Wish", "isGone", "Z", false)
def tyX10 : Nat → FieldType := fun k => match k with
  | 0 => .int
  | 1 => .int
  | 2 => .int
  | 3 => .int
  | 4 => .int
  | _ => .boolean
abbrev wsX100 : List Cond := u_ws RX10 TX10 6
theorem nmX10 : ∀ a, a < 6 → ∀ b, b < 6 → a ≠ b → (TX10 a).2.1 ≠ (TX10 b).2.1 := by decide +kernel
theorem tyX10_ok : ∀ k, k < 6 → parseFieldDescriptor (TX10 k).2.2.1 = some (tyX10 k) := by decide +kernel
abbrev cX10_init : ByteArray := prog_10_method_1_code
def yX10_init : MethodName := ⟨RX10, "<init>", "(IIIII)V"⟩
def dkwX10_init_1 : List UInt8 := [181, 0, 19, 42, 21, 5, 181, 0, 22, 177]
abbrev dktX10_init_1 : List UInt8 := dkwX10_init_1 ++ []
def dkwX10_init_0 : List UInt8 := [42, 183, 0, 1, 42, 27, 181, 0, 7, 42, 28, 181, 0, 13, 42, 29, 181, 0, 16, 42, 21, 4]
abbrev dktX10_init_0 : List UInt8 := dkwX10_init_0 ++ dktX10_init_1
theorem dksX10_init_0 : cX10_init.data.toList.drop 0 = dktX10_init_0 := by decide +kernel
theorem dksX10_init_1 : cX10_init.data.toList.drop 22 = dktX10_init_1 := dk_seg dksX10_init_0 22 rfl rfl
theorem dX10_init_0 : decode cX10_init 0 = .ok (.aload_n 0, 1) := dk_42 (dk_at dksX10_init_0 0 rfl rfl)
theorem dX10_init_1 : decode cX10_init 1 = .ok (.invokespecial 1, 3) := dk_183 0 1 (dk_at dksX10_init_0 1 rfl rfl)
theorem dX10_init_4 : decode cX10_init 4 = .ok (.aload_n 0, 1) := dk_42 (dk_at dksX10_init_0 4 rfl rfl)
theorem dX10_init_5 : decode cX10_init 5 = .ok (.iload_n 1, 1) := dk_27 (dk_at dksX10_init_0 5 rfl rfl)
theorem dX10_init_6 : decode cX10_init 6 = .ok (.putfield 7, 3) := dk_181 0 7 (dk_at dksX10_init_0 6 rfl rfl)
theorem dX10_init_9 : decode cX10_init 9 = .ok (.aload_n 0, 1) := dk_42 (dk_at dksX10_init_0 9 rfl rfl)
theorem dX10_init_10 : decode cX10_init 10 = .ok (.iload_n 2, 1) := dk_28 (dk_at dksX10_init_0 10 rfl rfl)
theorem dX10_init_11 : decode cX10_init 11 = .ok (.putfield 13, 3) := dk_181 0 13 (dk_at dksX10_init_0 11 rfl rfl)
theorem dX10_init_14 : decode cX10_init 14 = .ok (.aload_n 0, 1) := dk_42 (dk_at dksX10_init_0 14 rfl rfl)
theorem dX10_init_15 : decode cX10_init 15 = .ok (.iload_n 3, 1) := dk_29 (dk_at dksX10_init_0 15 rfl rfl)
theorem dX10_init_16 : decode cX10_init 16 = .ok (.putfield 16, 3) := dk_181 0 16 (dk_at dksX10_init_0 16 rfl rfl)
theorem dX10_init_19 : decode cX10_init 19 = .ok (.aload_n 0, 1) := dk_42 (dk_at dksX10_init_0 19 rfl rfl)
theorem dX10_init_20 : decode cX10_init 20 = .ok (.iload 4, 2) := dk_21 4 (dk_at dksX10_init_0 20 rfl rfl)
theorem dX10_init_22 : decode cX10_init 22 = .ok (.putfield 19, 3) := dk_181 0 19 (dk_at dksX10_init_1 0 rfl rfl)
theorem dX10_init_25 : decode cX10_init 25 = .ok (.aload_n 0, 1) := dk_42 (dk_at dksX10_init_1 3 rfl rfl)
theorem dX10_init_26 : decode cX10_init 26 = .ok (.iload 5, 2) := dk_21 5 (dk_at dksX10_init_1 4 rfl rfl)
theorem dX10_init_28 : decode cX10_init 28 = .ok (.putfield 22, 3) := dk_181 0 22 (dk_at dksX10_init_1 6 rfl rfl)
theorem dX10_init_31 : decode cX10_init 31 = .ok (.return_, 1) := dk_177 (dk_at dksX10_init_1 9 rfl rfl)
abbrev cX10_isDue : ByteArray := prog_10_method_4_code
def yX10_isDue : MethodName := ⟨RX10, "isDue", "(I)Z"⟩
def dkwX10_isDue_1 : List UInt8 := [180, 0, 19, 112, 154, 0, 7, 4, 167, 0, 4, 3, 172]
abbrev dktX10_isDue_1 : List UInt8 := dkwX10_isDue_1 ++ []
def dkwX10_isDue_0 : List UInt8 := [42, 180, 0, 28, 154, 0, 29, 27, 42, 180, 0, 22, 161, 0, 21, 27, 42, 180, 0, 22, 100, 42]
abbrev dktX10_isDue_0 : List UInt8 := dkwX10_isDue_0 ++ dktX10_isDue_1
theorem dksX10_isDue_0 : cX10_isDue.data.toList.drop 0 = dktX10_isDue_0 := by decide +kernel
theorem dksX10_isDue_1 : cX10_isDue.data.toList.drop 22 = dktX10_isDue_1 := dk_seg dksX10_isDue_0 22 rfl rfl
theorem dX10_isDue_0 : decode cX10_isDue 0 = .ok (.aload_n 0, 1) := dk_42 (dk_at dksX10_isDue_0 0 rfl rfl)
theorem dX10_isDue_1 : decode cX10_isDue 1 = .ok (.getfield 28, 3) := dk_180 0 28 (dk_at dksX10_isDue_0 1 rfl rfl)
theorem dX10_isDue_4 : decode cX10_isDue 4 = .ok (.ifCond .ne 29, 3) := dk_154 0 29 (dk_at dksX10_isDue_0 4 rfl rfl)
theorem dX10_isDue_7 : decode cX10_isDue 7 = .ok (.iload_n 1, 1) := dk_27 (dk_at dksX10_isDue_0 7 rfl rfl)
theorem dX10_isDue_8 : decode cX10_isDue 8 = .ok (.aload_n 0, 1) := dk_42 (dk_at dksX10_isDue_0 8 rfl rfl)
theorem dX10_isDue_9 : decode cX10_isDue 9 = .ok (.getfield 22, 3) := dk_180 0 22 (dk_at dksX10_isDue_0 9 rfl rfl)
theorem dX10_isDue_12 : decode cX10_isDue 12 = .ok (.if_icmp .lt 21, 3) := dk_161 0 21 (dk_at dksX10_isDue_0 12 rfl rfl)
theorem dX10_isDue_15 : decode cX10_isDue 15 = .ok (.iload_n 1, 1) := dk_27 (dk_at dksX10_isDue_0 15 rfl rfl)
theorem dX10_isDue_16 : decode cX10_isDue 16 = .ok (.aload_n 0, 1) := dk_42 (dk_at dksX10_isDue_0 16 rfl rfl)
theorem dX10_isDue_17 : decode cX10_isDue 17 = .ok (.getfield 22, 3) := dk_180 0 22 (dk_at dksX10_isDue_0 17 rfl rfl)
theorem dX10_isDue_20 : decode cX10_isDue 20 = .ok (.isub, 1) := dk_100 (dk_at dksX10_isDue_0 20 rfl rfl)
theorem dX10_isDue_21 : decode cX10_isDue 21 = .ok (.aload_n 0, 1) := dk_42 (dk_at dksX10_isDue_0 21 rfl rfl)
theorem dX10_isDue_22 : decode cX10_isDue 22 = .ok (.getfield 19, 3) := dk_180 0 19 (dk_at dksX10_isDue_1 0 rfl rfl)
theorem dX10_isDue_25 : decode cX10_isDue 25 = .ok (.irem, 1) := dk_112 (dk_at dksX10_isDue_1 3 rfl rfl)
theorem dX10_isDue_26 : decode cX10_isDue 26 = .ok (.ifCond .ne 7, 3) := dk_154 0 7 (dk_at dksX10_isDue_1 4 rfl rfl)
theorem dX10_isDue_29 : decode cX10_isDue 29 = .ok (.iconst 1, 1) := dk_4 (dk_at dksX10_isDue_1 7 rfl rfl)
theorem dX10_isDue_30 : decode cX10_isDue 30 = .ok (.goto 4, 3) := dk_167 0 4 (dk_at dksX10_isDue_1 8 rfl rfl)
theorem dX10_isDue_33 : decode cX10_isDue 33 = .ok (.iconst 0, 1) := dk_3 (dk_at dksX10_isDue_1 11 rfl rfl)
theorem dX10_isDue_34 : decode cX10_isDue 34 = .ok (.ireturn, 1) := dk_172 (dk_at dksX10_isDue_1 12 rfl rfl)
abbrev cX10_set : ByteArray := prog_10_method_3_code
def yX10_set : MethodName := ⟨RX10, "set", "(LGrassPark$Wish;)V"⟩
def dkwX10_set_2 : List UInt8 := [177]
abbrev dktX10_set_2 : List UInt8 := dkwX10_set_2 ++ []
def dkwX10_set_1 : List UInt8 := [42, 43, 180, 0, 19, 181, 0, 19, 42, 43, 180, 0, 22, 181, 0, 22, 42, 43, 180, 0, 28, 181, 0, 28]
abbrev dktX10_set_1 : List UInt8 := dkwX10_set_1 ++ dktX10_set_2
def dkwX10_set_0 : List UInt8 := [42, 43, 180, 0, 7, 181, 0, 7, 42, 43, 180, 0, 13, 181, 0, 13, 42, 43, 180, 0, 16, 181, 0, 16]
abbrev dktX10_set_0 : List UInt8 := dkwX10_set_0 ++ dktX10_set_1
theorem dksX10_set_0 : cX10_set.data.toList.drop 0 = dktX10_set_0 := by decide +kernel
theorem dksX10_set_1 : cX10_set.data.toList.drop 24 = dktX10_set_1 := dk_seg dksX10_set_0 24 rfl rfl
theorem dksX10_set_2 : cX10_set.data.toList.drop 48 = dktX10_set_2 := dk_seg dksX10_set_1 24 rfl rfl
theorem dX10_set_0 : decode cX10_set 0 = .ok (.aload_n 0, 1) := dk_42 (dk_at dksX10_set_0 0 rfl rfl)
theorem dX10_set_1 : decode cX10_set 1 = .ok (.aload_n 1, 1) := dk_43 (dk_at dksX10_set_0 1 rfl rfl)
theorem dX10_set_2 : decode cX10_set 2 = .ok (.getfield 7, 3) := dk_180 0 7 (dk_at dksX10_set_0 2 rfl rfl)
theorem dX10_set_5 : decode cX10_set 5 = .ok (.putfield 7, 3) := dk_181 0 7 (dk_at dksX10_set_0 5 rfl rfl)
theorem dX10_set_8 : decode cX10_set 8 = .ok (.aload_n 0, 1) := dk_42 (dk_at dksX10_set_0 8 rfl rfl)
theorem dX10_set_9 : decode cX10_set 9 = .ok (.aload_n 1, 1) := dk_43 (dk_at dksX10_set_0 9 rfl rfl)
theorem dX10_set_10 : decode cX10_set 10 = .ok (.getfield 13, 3) := dk_180 0 13 (dk_at dksX10_set_0 10 rfl rfl)
theorem dX10_set_13 : decode cX10_set 13 = .ok (.putfield 13, 3) := dk_181 0 13 (dk_at dksX10_set_0 13 rfl rfl)
theorem dX10_set_16 : decode cX10_set 16 = .ok (.aload_n 0, 1) := dk_42 (dk_at dksX10_set_0 16 rfl rfl)
theorem dX10_set_17 : decode cX10_set 17 = .ok (.aload_n 1, 1) := dk_43 (dk_at dksX10_set_0 17 rfl rfl)
theorem dX10_set_18 : decode cX10_set 18 = .ok (.getfield 16, 3) := dk_180 0 16 (dk_at dksX10_set_0 18 rfl rfl)
theorem dX10_set_21 : decode cX10_set 21 = .ok (.putfield 16, 3) := dk_181 0 16 (dk_at dksX10_set_0 21 rfl rfl)
theorem dX10_set_24 : decode cX10_set 24 = .ok (.aload_n 0, 1) := dk_42 (dk_at dksX10_set_1 0 rfl rfl)
theorem dX10_set_25 : decode cX10_set 25 = .ok (.aload_n 1, 1) := dk_43 (dk_at dksX10_set_1 1 rfl rfl)
theorem dX10_set_26 : decode cX10_set 26 = .ok (.getfield 19, 3) := dk_180 0 19 (dk_at dksX10_set_1 2 rfl rfl)
theorem dX10_set_29 : decode cX10_set 29 = .ok (.putfield 19, 3) := dk_181 0 19 (dk_at dksX10_set_1 5 rfl rfl)
theorem dX10_set_32 : decode cX10_set 32 = .ok (.aload_n 0, 1) := dk_42 (dk_at dksX10_set_1 8 rfl rfl)
theorem dX10_set_33 : decode cX10_set 33 = .ok (.aload_n 1, 1) := dk_43 (dk_at dksX10_set_1 9 rfl rfl)
theorem dX10_set_34 : decode cX10_set 34 = .ok (.getfield 22, 3) := dk_180 0 22 (dk_at dksX10_set_1 10 rfl rfl)
theorem dX10_set_37 : decode cX10_set 37 = .ok (.putfield 22, 3) := dk_181 0 22 (dk_at dksX10_set_1 13 rfl rfl)
theorem dX10_set_40 : decode cX10_set 40 = .ok (.aload_n 0, 1) := dk_42 (dk_at dksX10_set_1 16 rfl rfl)
theorem dX10_set_41 : decode cX10_set 41 = .ok (.aload_n 1, 1) := dk_43 (dk_at dksX10_set_1 17 rfl rfl)
theorem dX10_set_42 : decode cX10_set 42 = .ok (.getfield 28, 3) := dk_180 0 28 (dk_at dksX10_set_1 18 rfl rfl)
theorem dX10_set_45 : decode cX10_set 45 = .ok (.putfield 28, 3) := dk_181 0 28 (dk_at dksX10_set_1 21 rfl rfl)
theorem dX10_set_48 : decode cX10_set 48 = .ok (.return_, 1) := dk_177 (dk_at dksX10_set_2 0 rfl rfl)
abbrev cX10_copy : ByteArray := prog_10_method_2_code
def yX10_copy : MethodName := ⟨RX10, "copy", "()LGrassPark$Wish;"⟩
def dkwX10_copy_1 : List UInt8 := [183, 0, 25, 76, 43, 42, 180, 0, 28, 181, 0, 28, 43, 176]
abbrev dktX10_copy_1 : List UInt8 := dkwX10_copy_1 ++ []
def dkwX10_copy_0 : List UInt8 := [187, 0, 8, 89, 42, 180, 0, 7, 42, 180, 0, 13, 42, 180, 0, 16, 42, 180, 0, 19, 42, 180, 0, 22]
abbrev dktX10_copy_0 : List UInt8 := dkwX10_copy_0 ++ dktX10_copy_1
theorem dksX10_copy_0 : cX10_copy.data.toList.drop 0 = dktX10_copy_0 := by decide +kernel
theorem dksX10_copy_1 : cX10_copy.data.toList.drop 24 = dktX10_copy_1 := dk_seg dksX10_copy_0 24 rfl rfl
theorem dX10_copy_0 : decode cX10_copy 0 = .ok (.new 8, 3) := dk_187 0 8 (dk_at dksX10_copy_0 0 rfl rfl)
theorem dX10_copy_3 : decode cX10_copy 3 = .ok (.dup, 1) := dk_89 (dk_at dksX10_copy_0 3 rfl rfl)
theorem dX10_copy_4 : decode cX10_copy 4 = .ok (.aload_n 0, 1) := dk_42 (dk_at dksX10_copy_0 4 rfl rfl)
theorem dX10_copy_5 : decode cX10_copy 5 = .ok (.getfield 7, 3) := dk_180 0 7 (dk_at dksX10_copy_0 5 rfl rfl)
theorem dX10_copy_8 : decode cX10_copy 8 = .ok (.aload_n 0, 1) := dk_42 (dk_at dksX10_copy_0 8 rfl rfl)
theorem dX10_copy_9 : decode cX10_copy 9 = .ok (.getfield 13, 3) := dk_180 0 13 (dk_at dksX10_copy_0 9 rfl rfl)
theorem dX10_copy_12 : decode cX10_copy 12 = .ok (.aload_n 0, 1) := dk_42 (dk_at dksX10_copy_0 12 rfl rfl)
theorem dX10_copy_13 : decode cX10_copy 13 = .ok (.getfield 16, 3) := dk_180 0 16 (dk_at dksX10_copy_0 13 rfl rfl)
theorem dX10_copy_16 : decode cX10_copy 16 = .ok (.aload_n 0, 1) := dk_42 (dk_at dksX10_copy_0 16 rfl rfl)
theorem dX10_copy_17 : decode cX10_copy 17 = .ok (.getfield 19, 3) := dk_180 0 19 (dk_at dksX10_copy_0 17 rfl rfl)
theorem dX10_copy_20 : decode cX10_copy 20 = .ok (.aload_n 0, 1) := dk_42 (dk_at dksX10_copy_0 20 rfl rfl)
theorem dX10_copy_21 : decode cX10_copy 21 = .ok (.getfield 22, 3) := dk_180 0 22 (dk_at dksX10_copy_0 21 rfl rfl)
theorem dX10_copy_24 : decode cX10_copy 24 = .ok (.invokespecial 25, 3) := dk_183 0 25 (dk_at dksX10_copy_1 0 rfl rfl)
theorem dX10_copy_27 : decode cX10_copy 27 = .ok (.astore_n 1, 1) := dk_76 (dk_at dksX10_copy_1 3 rfl rfl)
theorem dX10_copy_28 : decode cX10_copy 28 = .ok (.aload_n 1, 1) := dk_43 (dk_at dksX10_copy_1 4 rfl rfl)
theorem dX10_copy_29 : decode cX10_copy 29 = .ok (.aload_n 0, 1) := dk_42 (dk_at dksX10_copy_1 5 rfl rfl)
theorem dX10_copy_30 : decode cX10_copy 30 = .ok (.getfield 28, 3) := dk_180 0 28 (dk_at dksX10_copy_1 6 rfl rfl)
theorem dX10_copy_33 : decode cX10_copy 33 = .ok (.putfield 28, 3) := dk_181 0 28 (dk_at dksX10_copy_1 9 rfl rfl)
theorem dX10_copy_36 : decode cX10_copy 36 = .ok (.aload_n 1, 1) := dk_43 (dk_at dksX10_copy_1 12 rfl rfl)
theorem dX10_copy_37 : decode cX10_copy 37 = .ok (.areturn, 1) := dk_176 (dk_at dksX10_copy_1 13 rfl rfl)
theorem q148 : (Jvm.Cond.initialized "GrassPark$Wish") ∈ lw_all := lw_g (lw_at lw_m1 32 rfl) rfl
theorem q1078 : (Jvm.Cond.selects "GrassPark$Wish" ({ cls := "java/lang/Object", name := "getClass", desc := "()Ljava/lang/Class;" } : Jvm.MethodName) ({ cls := "java/lang/Object", name := "getClass", desc := "()Ljava/lang/Class;" } : Jvm.MethodName)) ∈ lw_all := lw_g (lw_at lw_m5 2 rfl) rfl
theorem q1137 : (Jvm.Cond.instantiable "GrassPark$Wish" (6 : Nat)) ∈ lw_all := lw_g (lw_at lw_m5 61 rfl) rfl
theorem q1139 : (Jvm.Cond.instanceMethod ({ cls := "GrassPark$Wish", name := "<init>", desc := "(IIIII)V" } : Jvm.MethodName)) ∈ lw_all := lw_g (lw_at lw_m5 63 rfl) rfl
theorem q1140 : (Jvm.Cond.code ({ cls := "GrassPark$Wish", name := "<init>", desc := "(IIIII)V" } : Jvm.MethodName) prog_10_method_1_code (6 : Nat) (Option.none : Option Jvm.ClassFile.FieldType)) ∈ lw_all := lw_g (lw_at lw_m5 64 rfl) rfl
theorem q1141 : (Jvm.Cond.methodLink "GrassPark$Wish" (1 : Nat) ({ cls := "java/lang/Object", name := "<init>", desc := "()V" } : Jvm.MethodName)) ∈ lw_all := lw_g (lw_at lw_m5 65 rfl) rfl
theorem q1142 : (Jvm.Cond.fieldLink "GrassPark$Wish" (7 : Nat) "GrassPark$Wish" "from" "I") ∈ lw_all := lw_g (lw_at lw_m5 66 rfl) rfl
theorem q1144 : (Jvm.Cond.fieldLink "GrassPark$Wish" (13 : Nat) "GrassPark$Wish" "to" "I") ∈ lw_all := lw_g (lw_at lw_m5 68 rfl) rfl
theorem q1146 : (Jvm.Cond.fieldLink "GrassPark$Wish" (16 : Nat) "GrassPark$Wish" "habit" "I") ∈ lw_all := lw_g (lw_at lw_m5 70 rfl) rfl
theorem q1148 : (Jvm.Cond.fieldLink "GrassPark$Wish" (19 : Nat) "GrassPark$Wish" "every" "I") ∈ lw_all := lw_g (lw_at lw_m5 72 rfl) rfl
theorem q1149 : (Jvm.Cond.fieldLink "GrassPark$Wish" (22 : Nat) "GrassPark$Wish" "first" "I") ∈ lw_all := lw_g (lw_at lw_m5 73 rfl) rfl
theorem q1150 : (Jvm.Cond.fieldLink "GrassPark$Wish" (28 : Nat) "GrassPark$Wish" "isGone" "Z") ∈ lw_all := lw_g (lw_at lw_m5 74 rfl) rfl
theorem q1152 : (Jvm.Cond.lays "GrassPark$Wish" "GrassPark$Wish" "from" "I") ∈ lw_all := lw_g (lw_at lw_m5 76 rfl) rfl
theorem q1153 : (Jvm.Cond.soleField "GrassPark$Wish" "from") ∈ lw_all := lw_g (lw_at lw_m5 77 rfl) rfl
theorem q1154 : (Jvm.Cond.lays "GrassPark$Wish" "GrassPark$Wish" "to" "I") ∈ lw_all := lw_g (lw_at lw_m5 78 rfl) rfl
theorem q1155 : (Jvm.Cond.soleField "GrassPark$Wish" "to") ∈ lw_all := lw_g (lw_at lw_m5 79 rfl) rfl
theorem q1156 : (Jvm.Cond.lays "GrassPark$Wish" "GrassPark$Wish" "habit" "I") ∈ lw_all := lw_g (lw_at lw_m5 80 rfl) rfl
theorem q1157 : (Jvm.Cond.soleField "GrassPark$Wish" "habit") ∈ lw_all := lw_g (lw_at lw_m5 81 rfl) rfl
theorem q1158 : (Jvm.Cond.lays "GrassPark$Wish" "GrassPark$Wish" "every" "I") ∈ lw_all := lw_g (lw_at lw_m5 82 rfl) rfl
theorem q1159 : (Jvm.Cond.soleField "GrassPark$Wish" "every") ∈ lw_all := lw_g (lw_at lw_m5 83 rfl) rfl
theorem q1160 : (Jvm.Cond.lays "GrassPark$Wish" "GrassPark$Wish" "first" "I") ∈ lw_all := lw_g (lw_at lw_m5 84 rfl) rfl
theorem q1161 : (Jvm.Cond.soleField "GrassPark$Wish" "first") ∈ lw_all := lw_g (lw_at lw_m5 85 rfl) rfl
theorem q1162 : (Jvm.Cond.lays "GrassPark$Wish" "GrassPark$Wish" "isGone" "Z") ∈ lw_all := lw_g (lw_at lw_m5 86 rfl) rfl
theorem q1163 : (Jvm.Cond.soleField "GrassPark$Wish" "isGone") ∈ lw_all := lw_g (lw_at lw_m5 87 rfl) rfl
theorem q1164 : (Jvm.Cond.superclass "GrassPark$Wish" "java/lang/Object") ∈ lw_all := lw_g (lw_at lw_m5 88 rfl) rfl
theorem q1202 : (Jvm.Cond.instanceMethod ({ cls := "GrassPark$Wish", name := "isDue", desc := "(I)Z" } : Jvm.MethodName)) ∈ lw_all := lw_g (lw_at lw_m5 126 rfl) rfl
theorem q1203 : (Jvm.Cond.selects "GrassPark$Wish" ({ cls := "GrassPark$Wish", name := "isDue", desc := "(I)Z" } : Jvm.MethodName) ({ cls := "GrassPark$Wish", name := "isDue", desc := "(I)Z" } : Jvm.MethodName)) ∈ lw_all := lw_g (lw_at lw_m5 127 rfl) rfl
theorem q1204 : (Jvm.Cond.code ({ cls := "GrassPark$Wish", name := "isDue", desc := "(I)Z" } : Jvm.MethodName) prog_10_method_4_code (2 : Nat) (Option.some Jvm.ClassFile.FieldType.boolean)) ∈ lw_all := lw_g (lw_at lw_m5 128 rfl) rfl
theorem q1422 : (Jvm.Cond.instanceMethod ({ cls := "GrassPark$Wish", name := "set", desc := "(LGrassPark$Wish;)V" } : Jvm.MethodName)) ∈ lw_all := lw_g (lw_at lw_m6 106 rfl) rfl
theorem q1423 : (Jvm.Cond.selects "GrassPark$Wish" ({ cls := "GrassPark$Wish", name := "set", desc := "(LGrassPark$Wish;)V" } : Jvm.MethodName) ({ cls := "GrassPark$Wish", name := "set", desc := "(LGrassPark$Wish;)V" } : Jvm.MethodName)) ∈ lw_all := lw_g (lw_at lw_m6 107 rfl) rfl
theorem q1424 : (Jvm.Cond.code ({ cls := "GrassPark$Wish", name := "set", desc := "(LGrassPark$Wish;)V" } : Jvm.MethodName) prog_10_method_3_code (2 : Nat) (Option.none : Option Jvm.ClassFile.FieldType)) ∈ lw_all := lw_g (lw_at lw_m6 108 rfl) rfl
theorem q1426 : (Jvm.Cond.instanceMethod ({ cls := "GrassPark$Wish", name := "copy", desc := "()LGrassPark$Wish;" } : Jvm.MethodName)) ∈ lw_all := lw_g (lw_at lw_m6 110 rfl) rfl
theorem q1427 : (Jvm.Cond.selects "GrassPark$Wish" ({ cls := "GrassPark$Wish", name := "copy", desc := "()LGrassPark$Wish;" } : Jvm.MethodName) ({ cls := "GrassPark$Wish", name := "copy", desc := "()LGrassPark$Wish;" } : Jvm.MethodName)) ∈ lw_all := lw_g (lw_at lw_m6 111 rfl) rfl
theorem q1428 : (Jvm.Cond.code ({ cls := "GrassPark$Wish", name := "copy", desc := "()LGrassPark$Wish;" } : Jvm.MethodName) prog_10_method_2_code (2 : Nat) (Option.some (Jvm.ClassFile.FieldType.object "GrassPark$Wish"))) ∈ lw_all := lw_g (lw_at lw_m6 112 rfl) rfl
theorem q1429 : (Jvm.Cond.classLink "GrassPark$Wish" (8 : Nat) "GrassPark$Wish") ∈ lw_all := lw_g (lw_at lw_m6 113 rfl) rfl
theorem q1430 : (Jvm.Cond.methodLink "GrassPark$Wish" (25 : Nat) ({ cls := "GrassPark$Wish", name := "<init>", desc := "(IIIII)V" } : Jvm.MethodName)) ∈ lw_all := lw_g (lw_at lw_m6 114 rfl) rfl
theorem q2296 : (Jvm.Cond.castable "GrassPark$Wish" "java/lang/Object") ∈ lw_tbl := lw_at lw_m10 20 rfl
theorem in_X10 : ∀ w ∈ wsX100, w ∈ lw_all := lw_in wsX100 [1152, 1154, 1156, 1158, 1160, 1162] (by decide +kernel) (by decide +kernel)
/-! GrassPark$Walker -/
set_option maxRecDepth 100000
def RX11 : String := "GrassPark$Walker"
def TX11 : u_T := fun k => match k with
  | 0 => ("GrassPark$Walker", "goal", "I", false)
  | 1 => ("GrassPark$Walker", "habit", "I", false)
  | 2 => ("GrassPark$Walker", "wish", "I", false)
  | 3 => ("GrassPark$Walker", "at", "I", false)
  | 4 => ("GrassPark$Walker", "age", "I", false)
  | 5 => ("GrassPark$Walker", "way", "I", false)
  | _ => ("GrassPark$Walker", "came", "I", false)
def tyX11 : Nat → FieldType := fun k => match k with
  | 0 => .int
  | 1 => .int
  | 2 => .int
  | 3 => .int
  | 4 => .int
  | 5 => .int
  | _ => .int
abbrev wsX110 : List Cond := u_ws RX11 TX11 7
theorem nmX11 : ∀ a, a < 7 → ∀ b, b < 7 → a ≠ b → (TX11 a).2.1 ≠ (TX11 b).2.1 := by decide +kernel
theorem tyX11_ok : ∀ k, k < 7 → parseFieldDescriptor (TX11 k).2.2.1 = some (tyX11 k) := by decide +kernel
abbrev cX11_init : ByteArray := prog_9_method_1_code
def yX11_init : MethodName := ⟨RX11, "<init>", "()V"⟩
theorem dX11_init_0 : decode cX11_init 0 = .ok (.aload_n 0, 1) := by decide +kernel
theorem dX11_init_1 : decode cX11_init 1 = .ok (.invokespecial 3, 3) := by decide +kernel
theorem dX11_init_4 : decode cX11_init 4 = .ok (.return_, 1) := by decide +kernel
abbrev cX11_begin : ByteArray := prog_9_method_2_code
def yX11_begin : MethodName := ⟨RX11, "begin", "(IIII)LGrassPark$Walker;"⟩
def dkwX11_begin_1 : List UInt8 := [181, 0, 24, 42, 2, 181, 0, 27, 42, 2, 181, 0, 30, 42, 176]
abbrev dktX11_begin_1 : List UInt8 := dkwX11_begin_1 ++ []
def dkwX11_begin_0 : List UInt8 := [42, 27, 181, 0, 9, 42, 28, 181, 0, 15, 42, 29, 181, 0, 18, 42, 21, 4, 181, 0, 21, 42, 3]
abbrev dktX11_begin_0 : List UInt8 := dkwX11_begin_0 ++ dktX11_begin_1
theorem dksX11_begin_0 : cX11_begin.data.toList.drop 0 = dktX11_begin_0 := by decide +kernel
theorem dksX11_begin_1 : cX11_begin.data.toList.drop 23 = dktX11_begin_1 := dk_seg dksX11_begin_0 23 rfl rfl
theorem dX11_begin_0 : decode cX11_begin 0 = .ok (.aload_n 0, 1) := dk_42 (dk_at dksX11_begin_0 0 rfl rfl)
theorem dX11_begin_1 : decode cX11_begin 1 = .ok (.iload_n 1, 1) := dk_27 (dk_at dksX11_begin_0 1 rfl rfl)
theorem dX11_begin_2 : decode cX11_begin 2 = .ok (.putfield 9, 3) := dk_181 0 9 (dk_at dksX11_begin_0 2 rfl rfl)
theorem dX11_begin_5 : decode cX11_begin 5 = .ok (.aload_n 0, 1) := dk_42 (dk_at dksX11_begin_0 5 rfl rfl)
theorem dX11_begin_6 : decode cX11_begin 6 = .ok (.iload_n 2, 1) := dk_28 (dk_at dksX11_begin_0 6 rfl rfl)
theorem dX11_begin_7 : decode cX11_begin 7 = .ok (.putfield 15, 3) := dk_181 0 15 (dk_at dksX11_begin_0 7 rfl rfl)
theorem dX11_begin_10 : decode cX11_begin 10 = .ok (.aload_n 0, 1) := dk_42 (dk_at dksX11_begin_0 10 rfl rfl)
theorem dX11_begin_11 : decode cX11_begin 11 = .ok (.iload_n 3, 1) := dk_29 (dk_at dksX11_begin_0 11 rfl rfl)
theorem dX11_begin_12 : decode cX11_begin 12 = .ok (.putfield 18, 3) := dk_181 0 18 (dk_at dksX11_begin_0 12 rfl rfl)
theorem dX11_begin_15 : decode cX11_begin 15 = .ok (.aload_n 0, 1) := dk_42 (dk_at dksX11_begin_0 15 rfl rfl)
theorem dX11_begin_16 : decode cX11_begin 16 = .ok (.iload 4, 2) := dk_21 4 (dk_at dksX11_begin_0 16 rfl rfl)
theorem dX11_begin_18 : decode cX11_begin 18 = .ok (.putfield 21, 3) := dk_181 0 21 (dk_at dksX11_begin_0 18 rfl rfl)
theorem dX11_begin_21 : decode cX11_begin 21 = .ok (.aload_n 0, 1) := dk_42 (dk_at dksX11_begin_0 21 rfl rfl)
theorem dX11_begin_22 : decode cX11_begin 22 = .ok (.iconst 0, 1) := dk_3 (dk_at dksX11_begin_0 22 rfl rfl)
theorem dX11_begin_23 : decode cX11_begin 23 = .ok (.putfield 24, 3) := dk_181 0 24 (dk_at dksX11_begin_1 0 rfl rfl)
theorem dX11_begin_26 : decode cX11_begin 26 = .ok (.aload_n 0, 1) := dk_42 (dk_at dksX11_begin_1 3 rfl rfl)
theorem dX11_begin_27 : decode cX11_begin 27 = .ok (.iconst (-1), 1) := dk_2 (dk_at dksX11_begin_1 4 rfl rfl)
theorem dX11_begin_28 : decode cX11_begin 28 = .ok (.putfield 27, 3) := dk_181 0 27 (dk_at dksX11_begin_1 5 rfl rfl)
theorem dX11_begin_31 : decode cX11_begin 31 = .ok (.aload_n 0, 1) := dk_42 (dk_at dksX11_begin_1 8 rfl rfl)
theorem dX11_begin_32 : decode cX11_begin 32 = .ok (.iconst (-1), 1) := dk_2 (dk_at dksX11_begin_1 9 rfl rfl)
theorem dX11_begin_33 : decode cX11_begin 33 = .ok (.putfield 30, 3) := dk_181 0 30 (dk_at dksX11_begin_1 10 rfl rfl)
theorem dX11_begin_36 : decode cX11_begin 36 = .ok (.aload_n 0, 1) := dk_42 (dk_at dksX11_begin_1 13 rfl rfl)
theorem dX11_begin_37 : decode cX11_begin 37 = .ok (.areturn, 1) := dk_176 (dk_at dksX11_begin_1 14 rfl rfl)
abbrev cX11_set : ByteArray := prog_9_method_3_code
def yX11_set : MethodName := ⟨RX11, "set", "(LGrassPark$Walker;)V"⟩
def dkwX11_set_1 : List UInt8 := [180, 0, 24, 181, 0, 24, 42, 43, 180, 0, 27, 181, 0, 27, 42, 43, 180, 0, 30, 181, 0, 30, 177]
abbrev dktX11_set_1 : List UInt8 := dkwX11_set_1 ++ []
def dkwX11_set_0 : List UInt8 := [42, 43, 180, 0, 9, 43, 180, 0, 15, 43, 180, 0, 18, 43, 180, 0, 21, 182, 0, 33, 87, 42, 43]
abbrev dktX11_set_0 : List UInt8 := dkwX11_set_0 ++ dktX11_set_1
theorem dksX11_set_0 : cX11_set.data.toList.drop 0 = dktX11_set_0 := by decide +kernel
theorem dksX11_set_1 : cX11_set.data.toList.drop 23 = dktX11_set_1 := dk_seg dksX11_set_0 23 rfl rfl
theorem dX11_set_0 : decode cX11_set 0 = .ok (.aload_n 0, 1) := dk_42 (dk_at dksX11_set_0 0 rfl rfl)
theorem dX11_set_1 : decode cX11_set 1 = .ok (.aload_n 1, 1) := dk_43 (dk_at dksX11_set_0 1 rfl rfl)
theorem dX11_set_2 : decode cX11_set 2 = .ok (.getfield 9, 3) := dk_180 0 9 (dk_at dksX11_set_0 2 rfl rfl)
theorem dX11_set_5 : decode cX11_set 5 = .ok (.aload_n 1, 1) := dk_43 (dk_at dksX11_set_0 5 rfl rfl)
theorem dX11_set_6 : decode cX11_set 6 = .ok (.getfield 15, 3) := dk_180 0 15 (dk_at dksX11_set_0 6 rfl rfl)
theorem dX11_set_9 : decode cX11_set 9 = .ok (.aload_n 1, 1) := dk_43 (dk_at dksX11_set_0 9 rfl rfl)
theorem dX11_set_10 : decode cX11_set 10 = .ok (.getfield 18, 3) := dk_180 0 18 (dk_at dksX11_set_0 10 rfl rfl)
theorem dX11_set_13 : decode cX11_set 13 = .ok (.aload_n 1, 1) := dk_43 (dk_at dksX11_set_0 13 rfl rfl)
theorem dX11_set_14 : decode cX11_set 14 = .ok (.getfield 21, 3) := dk_180 0 21 (dk_at dksX11_set_0 14 rfl rfl)
theorem dX11_set_17 : decode cX11_set 17 = .ok (.invokevirtual 33, 3) := dk_182 0 33 (dk_at dksX11_set_0 17 rfl rfl)
theorem dX11_set_20 : decode cX11_set 20 = .ok (.pop, 1) := dk_87 (dk_at dksX11_set_0 20 rfl rfl)
theorem dX11_set_21 : decode cX11_set 21 = .ok (.aload_n 0, 1) := dk_42 (dk_at dksX11_set_0 21 rfl rfl)
theorem dX11_set_22 : decode cX11_set 22 = .ok (.aload_n 1, 1) := dk_43 (dk_at dksX11_set_0 22 rfl rfl)
theorem dX11_set_23 : decode cX11_set 23 = .ok (.getfield 24, 3) := dk_180 0 24 (dk_at dksX11_set_1 0 rfl rfl)
theorem dX11_set_26 : decode cX11_set 26 = .ok (.putfield 24, 3) := dk_181 0 24 (dk_at dksX11_set_1 3 rfl rfl)
theorem dX11_set_29 : decode cX11_set 29 = .ok (.aload_n 0, 1) := dk_42 (dk_at dksX11_set_1 6 rfl rfl)
theorem dX11_set_30 : decode cX11_set 30 = .ok (.aload_n 1, 1) := dk_43 (dk_at dksX11_set_1 7 rfl rfl)
theorem dX11_set_31 : decode cX11_set 31 = .ok (.getfield 27, 3) := dk_180 0 27 (dk_at dksX11_set_1 8 rfl rfl)
theorem dX11_set_34 : decode cX11_set 34 = .ok (.putfield 27, 3) := dk_181 0 27 (dk_at dksX11_set_1 11 rfl rfl)
theorem dX11_set_37 : decode cX11_set 37 = .ok (.aload_n 0, 1) := dk_42 (dk_at dksX11_set_1 14 rfl rfl)
theorem dX11_set_38 : decode cX11_set 38 = .ok (.aload_n 1, 1) := dk_43 (dk_at dksX11_set_1 15 rfl rfl)
theorem dX11_set_39 : decode cX11_set 39 = .ok (.getfield 30, 3) := dk_180 0 30 (dk_at dksX11_set_1 16 rfl rfl)
theorem dX11_set_42 : decode cX11_set 42 = .ok (.putfield 30, 3) := dk_181 0 30 (dk_at dksX11_set_1 19 rfl rfl)
theorem dX11_set_45 : decode cX11_set 45 = .ok (.return_, 1) := dk_177 (dk_at dksX11_set_1 22 rfl rfl)
theorem q150 : (Jvm.Cond.initialized "GrassPark$Walker") ∈ lw_all := lw_g (lw_at lw_m1 34 rfl) rfl
theorem q1077 : (Jvm.Cond.selects "GrassPark$Walker" ({ cls := "java/lang/Object", name := "getClass", desc := "()Ljava/lang/Class;" } : Jvm.MethodName) ({ cls := "java/lang/Object", name := "getClass", desc := "()Ljava/lang/Class;" } : Jvm.MethodName)) ∈ lw_all := lw_g (lw_at lw_m5 1 rfl) rfl
theorem q1214 : (Jvm.Cond.instantiable "GrassPark$Walker" (7 : Nat)) ∈ lw_all := lw_g (lw_at lw_m5 138 rfl) rfl
theorem q1216 : (Jvm.Cond.instanceMethod ({ cls := "GrassPark$Walker", name := "<init>", desc := "()V" } : Jvm.MethodName)) ∈ lw_all := lw_g (lw_at lw_m5 140 rfl) rfl
theorem q1217 : (Jvm.Cond.code ({ cls := "GrassPark$Walker", name := "<init>", desc := "()V" } : Jvm.MethodName) prog_9_method_1_code (1 : Nat) (Option.none : Option Jvm.ClassFile.FieldType)) ∈ lw_all := lw_g (lw_at lw_m5 141 rfl) rfl
theorem q1218 : (Jvm.Cond.methodLink "GrassPark$Walker" (3 : Nat) ({ cls := "java/lang/Object", name := "<init>", desc := "()V" } : Jvm.MethodName)) ∈ lw_all := lw_g (lw_at lw_m5 142 rfl) rfl
theorem q1219 : (Jvm.Cond.fieldLink "GrassPark$Walker" (15 : Nat) "GrassPark$Walker" "goal" "I") ∈ lw_all := lw_g (lw_at lw_m5 143 rfl) rfl
theorem q1222 : (Jvm.Cond.fieldLink "GrassPark$Walker" (18 : Nat) "GrassPark$Walker" "habit" "I") ∈ lw_all := lw_g (lw_at lw_m5 146 rfl) rfl
theorem q1224 : (Jvm.Cond.fieldLink "GrassPark$Walker" (21 : Nat) "GrassPark$Walker" "wish" "I") ∈ lw_all := lw_g (lw_at lw_m5 148 rfl) rfl
theorem q1226 : (Jvm.Cond.fieldLink "GrassPark$Walker" (9 : Nat) "GrassPark$Walker" "at" "I") ∈ lw_all := lw_g (lw_at lw_m5 150 rfl) rfl
theorem q1229 : (Jvm.Cond.fieldLink "GrassPark$Walker" (24 : Nat) "GrassPark$Walker" "age" "I") ∈ lw_all := lw_g (lw_at lw_m5 153 rfl) rfl
theorem q1232 : (Jvm.Cond.fieldLink "GrassPark$Walker" (27 : Nat) "GrassPark$Walker" "way" "I") ∈ lw_all := lw_g (lw_at lw_m5 156 rfl) rfl
theorem q1234 : (Jvm.Cond.fieldLink "GrassPark$Walker" (30 : Nat) "GrassPark$Walker" "came" "I") ∈ lw_all := lw_g (lw_at lw_m5 158 rfl) rfl
theorem q1236 : (Jvm.Cond.lays "GrassPark$Walker" "GrassPark$Walker" "goal" "I") ∈ lw_all := lw_g (lw_at lw_m5 160 rfl) rfl
theorem q1237 : (Jvm.Cond.soleField "GrassPark$Walker" "goal") ∈ lw_all := lw_g (lw_at lw_m5 161 rfl) rfl
theorem q1238 : (Jvm.Cond.lays "GrassPark$Walker" "GrassPark$Walker" "habit" "I") ∈ lw_all := lw_g (lw_at lw_m5 162 rfl) rfl
theorem q1239 : (Jvm.Cond.soleField "GrassPark$Walker" "habit") ∈ lw_all := lw_g (lw_at lw_m5 163 rfl) rfl
theorem q1240 : (Jvm.Cond.lays "GrassPark$Walker" "GrassPark$Walker" "wish" "I") ∈ lw_all := lw_g (lw_at lw_m5 164 rfl) rfl
theorem q1241 : (Jvm.Cond.soleField "GrassPark$Walker" "wish") ∈ lw_all := lw_g (lw_at lw_m5 165 rfl) rfl
theorem q1242 : (Jvm.Cond.lays "GrassPark$Walker" "GrassPark$Walker" "at" "I") ∈ lw_all := lw_g (lw_at lw_m5 166 rfl) rfl
theorem q1243 : (Jvm.Cond.soleField "GrassPark$Walker" "at") ∈ lw_all := lw_g (lw_at lw_m5 167 rfl) rfl
theorem q1244 : (Jvm.Cond.lays "GrassPark$Walker" "GrassPark$Walker" "age" "I") ∈ lw_all := lw_g (lw_at lw_m5 168 rfl) rfl
theorem q1245 : (Jvm.Cond.soleField "GrassPark$Walker" "age") ∈ lw_all := lw_g (lw_at lw_m5 169 rfl) rfl
theorem q1246 : (Jvm.Cond.lays "GrassPark$Walker" "GrassPark$Walker" "way" "I") ∈ lw_all := lw_g (lw_at lw_m5 170 rfl) rfl
theorem q1247 : (Jvm.Cond.soleField "GrassPark$Walker" "way") ∈ lw_all := lw_g (lw_at lw_m5 171 rfl) rfl
theorem q1248 : (Jvm.Cond.lays "GrassPark$Walker" "GrassPark$Walker" "came" "I") ∈ lw_all := lw_g (lw_at lw_m5 172 rfl) rfl
theorem q1249 : (Jvm.Cond.soleField "GrassPark$Walker" "came") ∈ lw_all := lw_g (lw_at lw_m5 173 rfl) rfl
theorem q1250 : (Jvm.Cond.superclass "GrassPark$Walker" "java/lang/Object") ∈ lw_all := lw_g (lw_at lw_m5 174 rfl) rfl
theorem q1261 : (Jvm.Cond.instanceMethod ({ cls := "GrassPark$Walker", name := "begin", desc := "(IIII)LGrassPark$Walker;" } : Jvm.MethodName)) ∈ lw_all := lw_g (lw_at lw_m5 185 rfl) rfl
theorem q1262 : (Jvm.Cond.selects "GrassPark$Walker" ({ cls := "GrassPark$Walker", name := "begin", desc := "(IIII)LGrassPark$Walker;" } : Jvm.MethodName) ({ cls := "GrassPark$Walker", name := "begin", desc := "(IIII)LGrassPark$Walker;" } : Jvm.MethodName)) ∈ lw_all := lw_g (lw_at lw_m5 186 rfl) rfl
theorem q1263 : (Jvm.Cond.code ({ cls := "GrassPark$Walker", name := "begin", desc := "(IIII)LGrassPark$Walker;" } : Jvm.MethodName) prog_9_method_2_code (5 : Nat) (Option.some (Jvm.ClassFile.FieldType.object "GrassPark$Walker"))) ∈ lw_all := lw_g (lw_at lw_m5 187 rfl) rfl
theorem q1432 : (Jvm.Cond.instanceMethod ({ cls := "GrassPark$Walker", name := "set", desc := "(LGrassPark$Walker;)V" } : Jvm.MethodName)) ∈ lw_all := lw_g (lw_at lw_m6 116 rfl) rfl
theorem q1433 : (Jvm.Cond.selects "GrassPark$Walker" ({ cls := "GrassPark$Walker", name := "set", desc := "(LGrassPark$Walker;)V" } : Jvm.MethodName) ({ cls := "GrassPark$Walker", name := "set", desc := "(LGrassPark$Walker;)V" } : Jvm.MethodName)) ∈ lw_all := lw_g (lw_at lw_m6 117 rfl) rfl
theorem q1434 : (Jvm.Cond.code ({ cls := "GrassPark$Walker", name := "set", desc := "(LGrassPark$Walker;)V" } : Jvm.MethodName) prog_9_method_3_code (2 : Nat) (Option.none : Option Jvm.ClassFile.FieldType)) ∈ lw_all := lw_g (lw_at lw_m6 118 rfl) rfl
theorem q1435 : (Jvm.Cond.methodLink "GrassPark$Walker" (33 : Nat) ({ cls := "GrassPark$Walker", name := "begin", desc := "(IIII)LGrassPark$Walker;" } : Jvm.MethodName)) ∈ lw_all := lw_g (lw_at lw_m6 119 rfl) rfl
theorem q2297 : (Jvm.Cond.castable "GrassPark$Walker" "java/lang/Object") ∈ lw_tbl := lw_at lw_m10 21 rfl
theorem in_X11 : ∀ w ∈ wsX110, w ∈ lw_all := lw_in wsX110 [1236, 1238, 1240, 1242, 1244, 1246, 1248] (by decide +kernel) (by decide +kernel)
