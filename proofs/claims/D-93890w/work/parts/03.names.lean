theorem q123 : (Jvm.Cond.arrayOver (Jvm.ClassFile.FieldType.object "NoFartherThanAThrow$Shelf")) ∈ lw_tbl := lw_at lw_m1 45 rfl
set_option maxRecDepth 100000
theorem q139 : (Jvm.Cond.arrayClass Jvm.ClassFile.FieldType.int) ∈ lw_all := lw_g (lw_at lw_m1 61 rfl) rfl
theorem q147 : (Jvm.Cond.arrayOver (Jvm.ClassFile.FieldType.array Jvm.ClassFile.FieldType.int)) ∈ lw_tbl := lw_at lw_m1 69 rfl
theorem q173 : (Jvm.Cond.arrayOver (Jvm.ClassFile.FieldType.object "NoFartherThanAThrow$Thing")) ∈ lw_tbl := lw_at lw_m1 95 rfl
theorem q262 : (Jvm.Cond.arrayClass Jvm.ClassFile.FieldType.boolean) ∈ lw_all := lw_g (lw_at lw_m1 184 rfl) rfl
theorem q383 : (Jvm.Cond.arrayClass Jvm.ClassFile.FieldType.byte) ∈ lw_all := lw_g (lw_at lw_m2 65 rfl) rfl
theorem q458 : (Jvm.Cond.arrayClass Jvm.ClassFile.FieldType.short) ∈ lw_all := lw_g (lw_at lw_m2 140 rfl) rfl
theorem q479 : (Jvm.Cond.arrayClass Jvm.ClassFile.FieldType.long) ∈ lw_all := lw_g (lw_at lw_m2 161 rfl) rfl
theorem q99 : (Jvm.Cond.initialized "java/lang/System") ∈ lw_all := lw_g (lw_at lw_m1 21 rfl) rfl
set_option maxRecDepth 100000
theorem q566 : (Jvm.Cond.static ({ cls := "java/lang/System", name := "arraycopy", desc := "(Ljava/lang/Object;ILjava/lang/Object;II)V" } : Jvm.MethodName)) ∈ lw_all := lw_g (lw_at lw_m3 8 rfl) rfl
theorem q567 : (Jvm.Cond.native ({ cls := "java/lang/System", name := "arraycopy", desc := "(Ljava/lang/Object;ILjava/lang/Object;II)V" } : Jvm.MethodName)) ∈ lw_all := lw_g (lw_at lw_m3 9 rfl) rfl
theorem q78 : (Jvm.Cond.initialized "NoFartherThanAThrowLaw") ∈ lw_all := lw_g (lw_at lw_m1 0 rfl) rfl
set_option maxRecDepth 100000
theorem q114 : (Jvm.Cond.classLink "NoFartherThanAThrowLaw" (7 : Nat) "NoFartherThanAThrow") ∈ lw_all := lw_g (lw_at lw_m1 36 rfl) rfl
theorem q116 : (Jvm.Cond.methodLink "NoFartherThanAThrowLaw" (9 : Nat) ({ cls := "NoFartherThanAThrow", name := "<init>", desc := "()V" } : Jvm.MethodName)) ∈ lw_all := lw_g (lw_at lw_m1 38 rfl) rfl
theorem q301 : (Jvm.Cond.methodLink "NoFartherThanAThrowLaw" (13 : Nat) ({ cls := "NoFartherThanAThrow", name := "row", desc := "(III)I" } : Jvm.MethodName)) ∈ lw_all := lw_g (lw_at lw_m1 223 rfl) rfl
theorem q484 : (Jvm.Cond.methodLink "NoFartherThanAThrowLaw" (20 : Nat) ({ cls := "NoFartherThanAThrow", name := "set", desc := "(IIJ)I" } : Jvm.MethodName)) ∈ lw_all := lw_g (lw_at lw_m2 166 rfl) rfl
theorem q525 : (Jvm.Cond.methodLink "NoFartherThanAThrowLaw" (25 : Nat) ({ cls := "NoFartherThanAThrow", name := "copy", desc := "(IIIII)I" } : Jvm.MethodName)) ∈ lw_all := lw_g (lw_at lw_m2 207 rfl) rfl
theorem q568 : (Jvm.Cond.methodLink "NoFartherThanAThrowLaw" (30 : Nat) ({ cls := "NoFartherThanAThrow", name := "element", desc := "(II)J" } : Jvm.MethodName)) ∈ lw_all := lw_g (lw_at lw_m3 10 rfl) rfl
theorem q587 : (Jvm.Cond.methodLink "NoFartherThanAThrowLaw" (35 : Nat) ({ cls := "NoFartherThanAThrow", name := "show", desc := "(II)I" } : Jvm.MethodName)) ∈ lw_all := lw_g (lw_at lw_m3 29 rfl) rfl
theorem q599 : (Jvm.Cond.methodLink "NoFartherThanAThrowLaw" (40 : Nat) ({ cls := "NoFartherThanAThrow", name := "holds", desc := "(I)I" } : Jvm.MethodName)) ∈ lw_all := lw_g (lw_at lw_m3 41 rfl) rfl
theorem q605 : (Jvm.Cond.methodLink "NoFartherThanAThrowLaw" (45 : Nat) ({ cls := "NoFartherThanAThrow", name := "says", desc := "(II)I" } : Jvm.MethodName)) ∈ lw_all := lw_g (lw_at lw_m3 47 rfl) rfl
theorem q699 : (Jvm.Cond.methodLink "NoFartherThanAThrowLaw" (49 : Nat) ({ cls := "NoFartherThanAThrow", name := "thing", desc := "(IIII)I" } : Jvm.MethodName)) ∈ lw_all := lw_g (lw_at lw_m3 141 rfl) rfl
theorem q814 : (Jvm.Cond.methodLink "NoFartherThanAThrowLaw" (54 : Nat) ({ cls := "NoFartherThanAThrow", name := "man", desc := "(I)I" } : Jvm.MethodName)) ∈ lw_all := lw_g (lw_at lw_m4 16 rfl) rfl
theorem q826 : (Jvm.Cond.methodLink "NoFartherThanAThrowLaw" (58 : Nat) ({ cls := "NoFartherThanAThrow", name := "men", desc := "(III)I" } : Jvm.MethodName)) ∈ lw_all := lw_g (lw_at lw_m4 28 rfl) rfl
theorem q854 : (Jvm.Cond.methodLink "NoFartherThanAThrowLaw" (62 : Nat) ({ cls := "NoFartherThanAThrow", name := "want", desc := "(III)I" } : Jvm.MethodName)) ∈ lw_all := lw_g (lw_at lw_m4 56 rfl) rfl
theorem q862 : (Jvm.Cond.methodLink "NoFartherThanAThrowLaw" (66 : Nat) ({ cls := "NoFartherThanAThrow", name := "ask", desc := "(II)I" } : Jvm.MethodName)) ∈ lw_all := lw_g (lw_at lw_m4 64 rfl) rfl
theorem q872 : (Jvm.Cond.methodLink "NoFartherThanAThrowLaw" (70 : Nat) ({ cls := "NoFartherThanAThrow", name := "river", desc := "(II)I" } : Jvm.MethodName)) ∈ lw_all := lw_g (lw_at lw_m4 74 rfl) rfl
theorem q880 : (Jvm.Cond.methodLink "NoFartherThanAThrowLaw" (74 : Nat) ({ cls := "NoFartherThanAThrow", name := "thingOf", desc := "(II)I" } : Jvm.MethodName)) ∈ lw_all := lw_g (lw_at lw_m4 82 rfl) rfl
theorem q911 : (Jvm.Cond.methodLink "NoFartherThanAThrowLaw" (78 : Nat) ({ cls := "NoFartherThanAThrow", name := "manOf", desc := "(II)I" } : Jvm.MethodName)) ∈ lw_all := lw_g (lw_at lw_m4 113 rfl) rfl
theorem q919 : (Jvm.Cond.methodLink "NoFartherThanAThrowLaw" (82 : Nat) ({ cls := "NoFartherThanAThrow", name := "wantOf", desc := "(II)I" } : Jvm.MethodName)) ∈ lw_all := lw_g (lw_at lw_m4 121 rfl) rfl
theorem q923 : (Jvm.Cond.methodLink "NoFartherThanAThrowLaw" (86 : Nat) ({ cls := "NoFartherThanAThrow", name := "valley", desc := "(I)I" } : Jvm.MethodName)) ∈ lw_all := lw_g (lw_at lw_m4 125 rfl) rfl
theorem q1078 : (Jvm.Cond.methodLink "NoFartherThanAThrowLaw" (90 : Nat) ({ cls := "NoFartherThanAThrow", name := "fault", desc := "()I" } : Jvm.MethodName)) ∈ lw_all := lw_g (lw_at lw_m5 40 rfl) rfl
theorem q1082 : (Jvm.Cond.methodLink "NoFartherThanAThrowLaw" (95 : Nat) ({ cls := "NoFartherThanAThrow", name := "far", desc := "(II)I" } : Jvm.MethodName)) ∈ lw_all := lw_g (lw_at lw_m5 44 rfl) rfl
theorem q1111 : (Jvm.Cond.methodLink "NoFartherThanAThrowLaw" (99 : Nat) ({ cls := "NoFartherThanAThrow", name := "wrong", desc := "(III)I" } : Jvm.MethodName)) ∈ lw_all := lw_g (lw_at lw_m5 73 rfl) rfl
theorem q1123 : (Jvm.Cond.methodLink "NoFartherThanAThrowLaw" (103 : Nat) ({ cls := "NoFartherThanAThrow", name := "carry", desc := "(III)I" } : Jvm.MethodName)) ∈ lw_all := lw_g (lw_at lw_m5 85 rfl) rfl
theorem q1136 : (Jvm.Cond.methodLink "NoFartherThanAThrowLaw" (107 : Nat) ({ cls := "NoFartherThanAThrow", name := "judge", desc := "(III)I" } : Jvm.MethodName)) ∈ lw_all := lw_g (lw_at lw_m5 98 rfl) rfl
theorem q1140 : (Jvm.Cond.methodLink "NoFartherThanAThrowLaw" (111 : Nat) ({ cls := "NoFartherThanAThrow", name := "end", desc := "(II)I" } : Jvm.MethodName)) ∈ lw_all := lw_g (lw_at lw_m5 102 rfl) rfl
theorem q1163 : (Jvm.Cond.methodLink "NoFartherThanAThrowLaw" (115 : Nat) ({ cls := "NoFartherThanAThrow", name := "does", desc := "(III)I" } : Jvm.MethodName)) ∈ lw_all := lw_g (lw_at lw_m5 125 rfl) rfl
theorem q1175 : (Jvm.Cond.methodLink "NoFartherThanAThrowLaw" (119 : Nat) ({ cls := "NoFartherThanAThrow", name := "fewest", desc := "(II)I" } : Jvm.MethodName)) ∈ lw_all := lw_g (lw_at lw_m5 137 rfl) rfl
theorem q1185 : (Jvm.Cond.methodLink "NoFartherThanAThrowLaw" (123 : Nat) ({ cls := "NoFartherThanAThrow", name := "order", desc := "(IIII)I" } : Jvm.MethodName)) ∈ lw_all := lw_g (lw_at lw_m5 147 rfl) rfl
theorem q1194 : (Jvm.Cond.methodLink "NoFartherThanAThrowLaw" (127 : Nat) ({ cls := "NoFartherThanAThrow", name := "handovers", desc := "(II)I" } : Jvm.MethodName)) ∈ lw_all := lw_g (lw_at lw_m5 156 rfl) rfl
theorem q1202 : (Jvm.Cond.methodLink "NoFartherThanAThrowLaw" (131 : Nat) ({ cls := "NoFartherThanAThrow", name := "shared", desc := "()I" } : Jvm.MethodName)) ∈ lw_all := lw_g (lw_at lw_m5 164 rfl) rfl
theorem q1220 : (Jvm.Cond.methodLink "NoFartherThanAThrowLaw" (135 : Nat) ({ cls := "NoFartherThanAThrow", name := "given", desc := "(I)I" } : Jvm.MethodName)) ∈ lw_all := lw_g (lw_at lw_m5 182 rfl) rfl
theorem q1224 : (Jvm.Cond.methodLink "NoFartherThanAThrowLaw" (139 : Nat) ({ cls := "NoFartherThanAThrow", name := "mill", desc := "(III)I" } : Jvm.MethodName)) ∈ lw_all := lw_g (lw_at lw_m5 186 rfl) rfl
theorem q1229 : (Jvm.Cond.methodLink "NoFartherThanAThrowLaw" (143 : Nat) ({ cls := "NoFartherThanAThrow", name := "weakest", desc := "(II)I" } : Jvm.MethodName)) ∈ lw_all := lw_g (lw_at lw_m5 191 rfl) rfl
theorem q1233 : (Jvm.Cond.methodLink "NoFartherThanAThrowLaw" (147 : Nat) ({ cls := "NoFartherThanAThrow", name := "helps", desc := "(IIII)I" } : Jvm.MethodName)) ∈ lw_all := lw_g (lw_at lw_m5 195 rfl) rfl
theorem q1237 : (Jvm.Cond.methodLink "NoFartherThanAThrowLaw" (151 : Nat) ({ cls := "NoFartherThanAThrow", name := "caught", desc := "(III)I" } : Jvm.MethodName)) ∈ lw_all := lw_g (lw_at lw_m5 199 rfl) rfl
theorem q1245 : (Jvm.Cond.methodLink "NoFartherThanAThrowLaw" (155 : Nat) ({ cls := "NoFartherThanAThrow", name := "mean", desc := "(III)I" } : Jvm.MethodName)) ∈ lw_all := lw_g (lw_at lw_m5 207 rfl) rfl
theorem q1258 : (Jvm.Cond.methodLink "NoFartherThanAThrowLaw" (159 : Nat) ({ cls := "NoFartherThanAThrow", name := "cast", desc := "(II)I" } : Jvm.MethodName)) ∈ lw_all := lw_g (lw_at lw_m5 220 rfl) rfl
theorem q1262 : (Jvm.Cond.methodLink "NoFartherThanAThrowLaw" (163 : Nat) ({ cls := "NoFartherThanAThrow", name := "toss", desc := "(III)I" } : Jvm.MethodName)) ∈ lw_all := lw_g (lw_at lw_m5 224 rfl) rfl
theorem q1286 : (Jvm.Cond.methodLink "NoFartherThanAThrowLaw" (167 : Nat) ({ cls := "NoFartherThanAThrow", name := "part", desc := "(I)I" } : Jvm.MethodName)) ∈ lw_all := lw_g (lw_at lw_m6 8 rfl) rfl
theorem q1296 : (Jvm.Cond.methodLink "NoFartherThanAThrowLaw" (171 : Nat) ({ cls := "NoFartherThanAThrow", name := "night", desc := "()I" } : Jvm.MethodName)) ∈ lw_all := lw_g (lw_at lw_m6 18 rfl) rfl
theorem q1300 : (Jvm.Cond.methodLink "NoFartherThanAThrowLaw" (175 : Nat) ({ cls := "NoFartherThanAThrow", name := "seed", desc := "(I)I" } : Jvm.MethodName)) ∈ lw_all := lw_g (lw_at lw_m6 22 rfl) rfl
theorem q1304 : (Jvm.Cond.methodLink "NoFartherThanAThrowLaw" (179 : Nat) ({ cls := "NoFartherThanAThrow", name := "act", desc := "(III)I" } : Jvm.MethodName)) ∈ lw_all := lw_g (lw_at lw_m6 26 rfl) rfl
theorem q1381 : (Jvm.Cond.methodLink "NoFartherThanAThrowLaw" (183 : Nat) ({ cls := "NoFartherThanAThrow", name := "trace", desc := "(I)I" } : Jvm.MethodName)) ∈ lw_all := lw_g (lw_at lw_m6 103 rfl) rfl
theorem q1386 : (Jvm.Cond.methodLink "NoFartherThanAThrowLaw" (187 : Nat) ({ cls := "NoFartherThanAThrow", name := "image", desc := "()I" } : Jvm.MethodName)) ∈ lw_all := lw_g (lw_at lw_m6 108 rfl) rfl
theorem q1390 : (Jvm.Cond.methodLink "NoFartherThanAThrowLaw" (191 : Nat) ({ cls := "NoFartherThanAThrow", name := "restore", desc := "()I" } : Jvm.MethodName)) ∈ lw_all := lw_g (lw_at lw_m6 112 rfl) rfl
theorem q1394 : (Jvm.Cond.methodLink "NoFartherThanAThrowLaw" (195 : Nat) ({ cls := "NoFartherThanAThrow", name := "status", desc := "(I)I" } : Jvm.MethodName)) ∈ lw_all := lw_g (lw_at lw_m6 116 rfl) rfl
theorem q1400 : (Jvm.Cond.classLink "NoFartherThanAThrowLaw" (10 : Nat) "NoFartherThanAThrowModel") ∈ lw_all := lw_g (lw_at lw_m6 122 rfl) rfl
theorem q1402 : (Jvm.Cond.methodLink "NoFartherThanAThrowLaw" (12 : Nat) ({ cls := "NoFartherThanAThrowModel", name := "<init>", desc := "()V" } : Jvm.MethodName)) ∈ lw_all := lw_g (lw_at lw_m6 124 rfl) rfl
theorem q1557 : (Jvm.Cond.methodLink "NoFartherThanAThrowLaw" (17 : Nat) ({ cls := "NoFartherThanAThrowModel", name := "row", desc := "(III)I" } : Jvm.MethodName)) ∈ lw_all := lw_g (lw_at lw_m7 39 rfl) rfl
theorem q1569 : (Jvm.Cond.methodLink "NoFartherThanAThrowLaw" (24 : Nat) ({ cls := "NoFartherThanAThrowModel", name := "set", desc := "(IIJ)I" } : Jvm.MethodName)) ∈ lw_all := lw_g (lw_at lw_m7 51 rfl) rfl
theorem q1573 : (Jvm.Cond.methodLink "NoFartherThanAThrowLaw" (29 : Nat) ({ cls := "NoFartherThanAThrowModel", name := "copy", desc := "(IIIII)I" } : Jvm.MethodName)) ∈ lw_all := lw_g (lw_at lw_m7 55 rfl) rfl
theorem q1577 : (Jvm.Cond.methodLink "NoFartherThanAThrowLaw" (34 : Nat) ({ cls := "NoFartherThanAThrowModel", name := "element", desc := "(II)J" } : Jvm.MethodName)) ∈ lw_all := lw_g (lw_at lw_m7 59 rfl) rfl
theorem q1581 : (Jvm.Cond.methodLink "NoFartherThanAThrowLaw" (39 : Nat) ({ cls := "NoFartherThanAThrowModel", name := "show", desc := "(II)I" } : Jvm.MethodName)) ∈ lw_all := lw_g (lw_at lw_m7 63 rfl) rfl
theorem q1589 : (Jvm.Cond.methodLink "NoFartherThanAThrowLaw" (44 : Nat) ({ cls := "NoFartherThanAThrowModel", name := "holds", desc := "(I)I" } : Jvm.MethodName)) ∈ lw_all := lw_g (lw_at lw_m7 71 rfl) rfl
theorem q1593 : (Jvm.Cond.methodLink "NoFartherThanAThrowLaw" (48 : Nat) ({ cls := "NoFartherThanAThrowModel", name := "says", desc := "(II)I" } : Jvm.MethodName)) ∈ lw_all := lw_g (lw_at lw_m7 75 rfl) rfl
theorem q1605 : (Jvm.Cond.methodLink "NoFartherThanAThrowLaw" (53 : Nat) ({ cls := "NoFartherThanAThrowModel", name := "thing", desc := "(IIII)I" } : Jvm.MethodName)) ∈ lw_all := lw_g (lw_at lw_m7 87 rfl) rfl
theorem q1621 : (Jvm.Cond.methodLink "NoFartherThanAThrowLaw" (57 : Nat) ({ cls := "NoFartherThanAThrowModel", name := "man", desc := "(I)I" } : Jvm.MethodName)) ∈ lw_all := lw_g (lw_at lw_m7 103 rfl) rfl
theorem q1629 : (Jvm.Cond.methodLink "NoFartherThanAThrowLaw" (61 : Nat) ({ cls := "NoFartherThanAThrowModel", name := "men", desc := "(III)I" } : Jvm.MethodName)) ∈ lw_all := lw_g (lw_at lw_m7 111 rfl) rfl
theorem q1641 : (Jvm.Cond.methodLink "NoFartherThanAThrowLaw" (65 : Nat) ({ cls := "NoFartherThanAThrowModel", name := "want", desc := "(III)I" } : Jvm.MethodName)) ∈ lw_all := lw_g (lw_at lw_m7 123 rfl) rfl
theorem q1649 : (Jvm.Cond.methodLink "NoFartherThanAThrowLaw" (69 : Nat) ({ cls := "NoFartherThanAThrowModel", name := "ask", desc := "(II)I" } : Jvm.MethodName)) ∈ lw_all := lw_g (lw_at lw_m7 131 rfl) rfl
theorem q1657 : (Jvm.Cond.methodLink "NoFartherThanAThrowLaw" (73 : Nat) ({ cls := "NoFartherThanAThrowModel", name := "river", desc := "(II)I" } : Jvm.MethodName)) ∈ lw_all := lw_g (lw_at lw_m7 139 rfl) rfl
theorem q1665 : (Jvm.Cond.methodLink "NoFartherThanAThrowLaw" (77 : Nat) ({ cls := "NoFartherThanAThrowModel", name := "thingOf", desc := "(II)I" } : Jvm.MethodName)) ∈ lw_all := lw_g (lw_at lw_m7 147 rfl) rfl
theorem q1669 : (Jvm.Cond.methodLink "NoFartherThanAThrowLaw" (81 : Nat) ({ cls := "NoFartherThanAThrowModel", name := "manOf", desc := "(II)I" } : Jvm.MethodName)) ∈ lw_all := lw_g (lw_at lw_m7 151 rfl) rfl
theorem q1677 : (Jvm.Cond.methodLink "NoFartherThanAThrowLaw" (85 : Nat) ({ cls := "NoFartherThanAThrowModel", name := "wantOf", desc := "(II)I" } : Jvm.MethodName)) ∈ lw_all := lw_g (lw_at lw_m7 159 rfl) rfl
theorem q1681 : (Jvm.Cond.methodLink "NoFartherThanAThrowLaw" (89 : Nat) ({ cls := "NoFartherThanAThrowModel", name := "valley", desc := "(I)I" } : Jvm.MethodName)) ∈ lw_all := lw_g (lw_at lw_m7 163 rfl) rfl
theorem q1725 : (Jvm.Cond.methodLink "NoFartherThanAThrowLaw" (94 : Nat) ({ cls := "NoFartherThanAThrowModel", name := "fault", desc := "()I" } : Jvm.MethodName)) ∈ lw_all := lw_g (lw_at lw_m7 207 rfl) rfl
theorem q1729 : (Jvm.Cond.methodLink "NoFartherThanAThrowLaw" (98 : Nat) ({ cls := "NoFartherThanAThrowModel", name := "far", desc := "(II)I" } : Jvm.MethodName)) ∈ lw_all := lw_g (lw_at lw_m7 211 rfl) rfl
theorem q1737 : (Jvm.Cond.methodLink "NoFartherThanAThrowLaw" (102 : Nat) ({ cls := "NoFartherThanAThrowModel", name := "wrong", desc := "(III)I" } : Jvm.MethodName)) ∈ lw_all := lw_g (lw_at lw_m7 219 rfl) rfl
theorem q1749 : (Jvm.Cond.methodLink "NoFartherThanAThrowLaw" (106 : Nat) ({ cls := "NoFartherThanAThrowModel", name := "carry", desc := "(III)I" } : Jvm.MethodName)) ∈ lw_all := lw_g (lw_at lw_m7 231 rfl) rfl
theorem q1761 : (Jvm.Cond.methodLink "NoFartherThanAThrowLaw" (110 : Nat) ({ cls := "NoFartherThanAThrowModel", name := "judge", desc := "(III)I" } : Jvm.MethodName)) ∈ lw_all := lw_g (lw_at lw_m8 3 rfl) rfl
theorem q1765 : (Jvm.Cond.methodLink "NoFartherThanAThrowLaw" (114 : Nat) ({ cls := "NoFartherThanAThrowModel", name := "end", desc := "(II)I" } : Jvm.MethodName)) ∈ lw_all := lw_g (lw_at lw_m8 7 rfl) rfl
theorem q1785 : (Jvm.Cond.methodLink "NoFartherThanAThrowLaw" (118 : Nat) ({ cls := "NoFartherThanAThrowModel", name := "does", desc := "(III)I" } : Jvm.MethodName)) ∈ lw_all := lw_g (lw_at lw_m8 27 rfl) rfl
theorem q1793 : (Jvm.Cond.methodLink "NoFartherThanAThrowLaw" (122 : Nat) ({ cls := "NoFartherThanAThrowModel", name := "fewest", desc := "(II)I" } : Jvm.MethodName)) ∈ lw_all := lw_g (lw_at lw_m8 35 rfl) rfl
theorem q1801 : (Jvm.Cond.methodLink "NoFartherThanAThrowLaw" (126 : Nat) ({ cls := "NoFartherThanAThrowModel", name := "order", desc := "(IIII)I" } : Jvm.MethodName)) ∈ lw_all := lw_g (lw_at lw_m8 43 rfl) rfl
theorem q1805 : (Jvm.Cond.methodLink "NoFartherThanAThrowLaw" (130 : Nat) ({ cls := "NoFartherThanAThrowModel", name := "handovers", desc := "(II)I" } : Jvm.MethodName)) ∈ lw_all := lw_g (lw_at lw_m8 47 rfl) rfl
theorem q1813 : (Jvm.Cond.methodLink "NoFartherThanAThrowLaw" (134 : Nat) ({ cls := "NoFartherThanAThrowModel", name := "shared", desc := "()I" } : Jvm.MethodName)) ∈ lw_all := lw_g (lw_at lw_m8 55 rfl) rfl
theorem q1829 : (Jvm.Cond.methodLink "NoFartherThanAThrowLaw" (138 : Nat) ({ cls := "NoFartherThanAThrowModel", name := "given", desc := "(I)I" } : Jvm.MethodName)) ∈ lw_all := lw_g (lw_at lw_m8 71 rfl) rfl
theorem q1833 : (Jvm.Cond.methodLink "NoFartherThanAThrowLaw" (142 : Nat) ({ cls := "NoFartherThanAThrowModel", name := "mill", desc := "(III)I" } : Jvm.MethodName)) ∈ lw_all := lw_g (lw_at lw_m8 75 rfl) rfl
theorem q1837 : (Jvm.Cond.methodLink "NoFartherThanAThrowLaw" (146 : Nat) ({ cls := "NoFartherThanAThrowModel", name := "weakest", desc := "(II)I" } : Jvm.MethodName)) ∈ lw_all := lw_g (lw_at lw_m8 79 rfl) rfl
theorem q1841 : (Jvm.Cond.methodLink "NoFartherThanAThrowLaw" (150 : Nat) ({ cls := "NoFartherThanAThrowModel", name := "helps", desc := "(IIII)I" } : Jvm.MethodName)) ∈ lw_all := lw_g (lw_at lw_m8 83 rfl) rfl
theorem q1845 : (Jvm.Cond.methodLink "NoFartherThanAThrowLaw" (154 : Nat) ({ cls := "NoFartherThanAThrowModel", name := "caught", desc := "(III)I" } : Jvm.MethodName)) ∈ lw_all := lw_g (lw_at lw_m8 87 rfl) rfl
theorem q1857 : (Jvm.Cond.methodLink "NoFartherThanAThrowLaw" (158 : Nat) ({ cls := "NoFartherThanAThrowModel", name := "mean", desc := "(III)I" } : Jvm.MethodName)) ∈ lw_all := lw_g (lw_at lw_m8 99 rfl) rfl
theorem q1869 : (Jvm.Cond.methodLink "NoFartherThanAThrowLaw" (162 : Nat) ({ cls := "NoFartherThanAThrowModel", name := "cast", desc := "(II)I" } : Jvm.MethodName)) ∈ lw_all := lw_g (lw_at lw_m8 111 rfl) rfl
theorem q1873 : (Jvm.Cond.methodLink "NoFartherThanAThrowLaw" (166 : Nat) ({ cls := "NoFartherThanAThrowModel", name := "toss", desc := "(III)I" } : Jvm.MethodName)) ∈ lw_all := lw_g (lw_at lw_m8 115 rfl) rfl
theorem q1882 : (Jvm.Cond.methodLink "NoFartherThanAThrowLaw" (170 : Nat) ({ cls := "NoFartherThanAThrowModel", name := "part", desc := "(I)I" } : Jvm.MethodName)) ∈ lw_all := lw_g (lw_at lw_m8 124 rfl) rfl
theorem q1886 : (Jvm.Cond.methodLink "NoFartherThanAThrowLaw" (174 : Nat) ({ cls := "NoFartherThanAThrowModel", name := "night", desc := "()I" } : Jvm.MethodName)) ∈ lw_all := lw_g (lw_at lw_m8 128 rfl) rfl
theorem q1890 : (Jvm.Cond.methodLink "NoFartherThanAThrowLaw" (178 : Nat) ({ cls := "NoFartherThanAThrowModel", name := "seed", desc := "(I)I" } : Jvm.MethodName)) ∈ lw_all := lw_g (lw_at lw_m8 132 rfl) rfl
theorem q1894 : (Jvm.Cond.methodLink "NoFartherThanAThrowLaw" (182 : Nat) ({ cls := "NoFartherThanAThrowModel", name := "act", desc := "(III)I" } : Jvm.MethodName)) ∈ lw_all := lw_g (lw_at lw_m8 136 rfl) rfl
theorem q1914 : (Jvm.Cond.methodLink "NoFartherThanAThrowLaw" (186 : Nat) ({ cls := "NoFartherThanAThrowModel", name := "trace", desc := "(I)I" } : Jvm.MethodName)) ∈ lw_all := lw_g (lw_at lw_m8 156 rfl) rfl
theorem q1918 : (Jvm.Cond.methodLink "NoFartherThanAThrowLaw" (190 : Nat) ({ cls := "NoFartherThanAThrowModel", name := "image", desc := "()I" } : Jvm.MethodName)) ∈ lw_all := lw_g (lw_at lw_m8 160 rfl) rfl
theorem q1922 : (Jvm.Cond.methodLink "NoFartherThanAThrowLaw" (194 : Nat) ({ cls := "NoFartherThanAThrowModel", name := "restore", desc := "()I" } : Jvm.MethodName)) ∈ lw_all := lw_g (lw_at lw_m8 164 rfl) rfl
theorem q1926 : (Jvm.Cond.methodLink "NoFartherThanAThrowLaw" (198 : Nat) ({ cls := "NoFartherThanAThrowModel", name := "status", desc := "(I)I" } : Jvm.MethodName)) ∈ lw_all := lw_g (lw_at lw_m8 168 rfl) rfl
theorem q1930 : (Jvm.Cond.constantLong "NoFartherThanAThrowLaw" (18 : Nat) (4294967295 : Int64)) ∈ lw_all := lw_g (lw_at lw_m8 172 rfl) rfl
/-! NoFartherThanAThrow$Trace -/
set_option maxRecDepth 100000
def RX1 : String := "NoFartherThanAThrow$Trace"
def TX1 : u_T := fun k => match k with
  | 0 => ("NoFartherThanAThrow$Trace", "bodies", "[I", true)
  | _ => ("NoFartherThanAThrow$Trace", "many", "I", false)
def tyX1 : Nat → FieldType := fun k => match k with
  | 0 => .array .int
  | _ => .int
abbrev wsX10 : List Cond := u_ws RX1 TX1 2
theorem nmX1 : ∀ a, a < 2 → ∀ b, b < 2 → a ≠ b → (TX1 a).2.1 ≠ (TX1 b).2.1 := by decide +kernel
theorem tyX1_ok : ∀ k, k < 2 → parseFieldDescriptor (TX1 k).2.2.1 = some (tyX1 k) := by decide +kernel
abbrev cX1_init : ByteArray := prog_19_method_1_code
def yX1_init : MethodName := ⟨RX1, "<init>", "()V"⟩
def dkwX1_init_0 : List UInt8 := [42, 183, 0, 3, 42, 16, 20, 188, 10, 181, 0, 9, 177]
abbrev dktX1_init_0 : List UInt8 := dkwX1_init_0 ++ []
theorem dksX1_init_0 : cX1_init.data.toList.drop 0 = dktX1_init_0 := by decide +kernel
theorem dX1_init_0 : decode cX1_init 0 = .ok (.aload_n 0, 1) := dk_42 (dk_at dksX1_init_0 0 rfl rfl)
theorem dX1_init_1 : decode cX1_init 1 = .ok (.invokespecial 3, 3) := dk_183 0 3 (dk_at dksX1_init_0 1 rfl rfl)
theorem dX1_init_4 : decode cX1_init 4 = .ok (.aload_n 0, 1) := dk_42 (dk_at dksX1_init_0 4 rfl rfl)
theorem dX1_init_5 : decode cX1_init 5 = .ok (.bipush 20, 2) := dk_16 20 (dk_at dksX1_init_0 5 rfl rfl)
theorem dX1_init_7 : decode cX1_init 7 = .ok (.newarray .int, 2) := dk_188_10 (dk_at dksX1_init_0 7 rfl rfl)
theorem dX1_init_9 : decode cX1_init 9 = .ok (.putfield 9, 3) := dk_181 0 9 (dk_at dksX1_init_0 9 rfl rfl)
theorem dX1_init_12 : decode cX1_init 12 = .ok (.return_, 1) := dk_177 (dk_at dksX1_init_0 12 rfl rfl)
abbrev cX1_runs : ByteArray := prog_19_method_2_code
def yX1_runs : MethodName := ⟨RX1, "runs", "(I)V"⟩
def dkwX1_runs_1 : List UInt8 := [4, 96, 181, 0, 15, 177]
abbrev dktX1_runs_1 : List UInt8 := dkwX1_runs_1 ++ []
def dkwX1_runs_0 : List UInt8 := [42, 180, 0, 15, 16, 20, 162, 0, 13, 42, 180, 0, 9, 42, 180, 0, 15, 27, 79, 42, 89, 180, 0, 15]
abbrev dktX1_runs_0 : List UInt8 := dkwX1_runs_0 ++ dktX1_runs_1
theorem dksX1_runs_0 : cX1_runs.data.toList.drop 0 = dktX1_runs_0 := by decide +kernel
theorem dksX1_runs_1 : cX1_runs.data.toList.drop 24 = dktX1_runs_1 := dk_seg dksX1_runs_0 24 rfl rfl
theorem dX1_runs_0 : decode cX1_runs 0 = .ok (.aload_n 0, 1) := dk_42 (dk_at dksX1_runs_0 0 rfl rfl)
theorem dX1_runs_1 : decode cX1_runs 1 = .ok (.getfield 15, 3) := dk_180 0 15 (dk_at dksX1_runs_0 1 rfl rfl)
theorem dX1_runs_4 : decode cX1_runs 4 = .ok (.bipush 20, 2) := dk_16 20 (dk_at dksX1_runs_0 4 rfl rfl)
theorem dX1_runs_6 : decode cX1_runs 6 = .ok (.if_icmp .ge 13, 3) := dk_162 0 13 (dk_at dksX1_runs_0 6 rfl rfl)
theorem dX1_runs_9 : decode cX1_runs 9 = .ok (.aload_n 0, 1) := dk_42 (dk_at dksX1_runs_0 9 rfl rfl)
theorem dX1_runs_10 : decode cX1_runs 10 = .ok (.getfield 9, 3) := dk_180 0 9 (dk_at dksX1_runs_0 10 rfl rfl)
theorem dX1_runs_13 : decode cX1_runs 13 = .ok (.aload_n 0, 1) := dk_42 (dk_at dksX1_runs_0 13 rfl rfl)
theorem dX1_runs_14 : decode cX1_runs 14 = .ok (.getfield 15, 3) := dk_180 0 15 (dk_at dksX1_runs_0 14 rfl rfl)
theorem dX1_runs_17 : decode cX1_runs 17 = .ok (.iload_n 1, 1) := dk_27 (dk_at dksX1_runs_0 17 rfl rfl)
theorem dX1_runs_18 : decode cX1_runs 18 = .ok (.iastore, 1) := dk_79 (dk_at dksX1_runs_0 18 rfl rfl)
theorem dX1_runs_19 : decode cX1_runs 19 = .ok (.aload_n 0, 1) := dk_42 (dk_at dksX1_runs_0 19 rfl rfl)
theorem dX1_runs_20 : decode cX1_runs 20 = .ok (.dup, 1) := dk_89 (dk_at dksX1_runs_0 20 rfl rfl)
theorem dX1_runs_21 : decode cX1_runs 21 = .ok (.getfield 15, 3) := dk_180 0 15 (dk_at dksX1_runs_0 21 rfl rfl)
theorem dX1_runs_24 : decode cX1_runs 24 = .ok (.iconst 1, 1) := dk_4 (dk_at dksX1_runs_1 0 rfl rfl)
theorem dX1_runs_25 : decode cX1_runs 25 = .ok (.iadd, 1) := dk_96 (dk_at dksX1_runs_1 1 rfl rfl)
theorem dX1_runs_26 : decode cX1_runs 26 = .ok (.putfield 15, 3) := dk_181 0 15 (dk_at dksX1_runs_1 2 rfl rfl)
theorem dX1_runs_29 : decode cX1_runs 29 = .ok (.return_, 1) := dk_177 (dk_at dksX1_runs_1 5 rfl rfl)
theorem q80 : (Jvm.Cond.initialized "NoFartherThanAThrow$Trace") ∈ lw_all := lw_g (lw_at lw_m1 2 rfl) rfl
theorem q125 : (Jvm.Cond.instantiable "NoFartherThanAThrow$Trace" (2 : Nat)) ∈ lw_all := lw_g (lw_at lw_m1 47 rfl) rfl
theorem q127 : (Jvm.Cond.instanceMethod ({ cls := "NoFartherThanAThrow$Trace", name := "<init>", desc := "()V" } : Jvm.MethodName)) ∈ lw_all := lw_g (lw_at lw_m1 49 rfl) rfl
theorem q128 : (Jvm.Cond.code ({ cls := "NoFartherThanAThrow$Trace", name := "<init>", desc := "()V" } : Jvm.MethodName) prog_19_method_1_code (1 : Nat) (Option.none : Option Jvm.ClassFile.FieldType)) ∈ lw_all := lw_g (lw_at lw_m1 50 rfl) rfl
theorem q129 : (Jvm.Cond.methodLink "NoFartherThanAThrow$Trace" (3 : Nat) ({ cls := "java/lang/Object", name := "<init>", desc := "()V" } : Jvm.MethodName)) ∈ lw_all := lw_g (lw_at lw_m1 51 rfl) rfl
theorem q130 : (Jvm.Cond.fieldLink "NoFartherThanAThrow$Trace" (9 : Nat) "NoFartherThanAThrow$Trace" "bodies" "[I") ∈ lw_all := lw_g (lw_at lw_m1 52 rfl) rfl
theorem q132 : (Jvm.Cond.fieldLink "NoFartherThanAThrow$Trace" (15 : Nat) "NoFartherThanAThrow$Trace" "many" "I") ∈ lw_all := lw_g (lw_at lw_m1 54 rfl) rfl
theorem q134 : (Jvm.Cond.laysFinal "NoFartherThanAThrow$Trace" "NoFartherThanAThrow$Trace" "bodies" "[I") ∈ lw_all := lw_g (lw_at lw_m1 56 rfl) rfl
theorem q135 : (Jvm.Cond.soleField "NoFartherThanAThrow$Trace" "bodies") ∈ lw_all := lw_g (lw_at lw_m1 57 rfl) rfl
theorem q136 : (Jvm.Cond.lays "NoFartherThanAThrow$Trace" "NoFartherThanAThrow$Trace" "many" "I") ∈ lw_all := lw_g (lw_at lw_m1 58 rfl) rfl
theorem q137 : (Jvm.Cond.soleField "NoFartherThanAThrow$Trace" "many") ∈ lw_all := lw_g (lw_at lw_m1 59 rfl) rfl
theorem q138 : (Jvm.Cond.superclass "NoFartherThanAThrow$Trace" "java/lang/Object") ∈ lw_all := lw_g (lw_at lw_m1 60 rfl) rfl
theorem q1317 : (Jvm.Cond.instanceMethod ({ cls := "NoFartherThanAThrow$Trace", name := "runs", desc := "(I)V" } : Jvm.MethodName)) ∈ lw_all := lw_g (lw_at lw_m6 39 rfl) rfl
theorem q1318 : (Jvm.Cond.selects "NoFartherThanAThrow$Trace" ({ cls := "NoFartherThanAThrow$Trace", name := "runs", desc := "(I)V" } : Jvm.MethodName) ({ cls := "NoFartherThanAThrow$Trace", name := "runs", desc := "(I)V" } : Jvm.MethodName)) ∈ lw_all := lw_g (lw_at lw_m6 40 rfl) rfl
theorem q1319 : (Jvm.Cond.code ({ cls := "NoFartherThanAThrow$Trace", name := "runs", desc := "(I)V" } : Jvm.MethodName) prog_19_method_2_code (2 : Nat) (Option.none : Option Jvm.ClassFile.FieldType)) ∈ lw_all := lw_g (lw_at lw_m6 41 rfl) rfl
theorem in_X1 : ∀ w ∈ wsX10, w ∈ lw_all := lw_in wsX10 [134, 136] (by decide +kernel) (by decide +kernel)
/-! NoFartherThanAThrow$Seeker -/
set_option maxRecDepth 100000
def RX2 : String := "NoFartherThanAThrow$Seeker"
def TX2 : u_T := fun k => match k with
  | 0 => ("NoFartherThanAThrow$Seeker", "reach", "[[I", true)
  | 1 => ("NoFartherThanAThrow$Seeker", "tried", "[I", true)
  | 2 => ("NoFartherThanAThrow$Seeker", "given", "[I", true)
  | 3 => ("NoFartherThanAThrow$Seeker", "sets", "[I", true)
  | _ => ("NoFartherThanAThrow$Seeker", "most", "I", false)
def tyX2 : Nat → FieldType := fun k => match k with
  | 0 => .array (.array .int)
  | 1 => .array .int
  | 2 => .array .int
  | 3 => .array .int
  | _ => .int
abbrev wsX20 : List Cond := u_ws RX2 TX2 5
theorem nmX2 : ∀ a, a < 5 → ∀ b, b < 5 → a ≠ b → (TX2 a).2.1 ≠ (TX2 b).2.1 := by decide +kernel
theorem tyX2_ok : ∀ k, k < 5 → parseFieldDescriptor (TX2 k).2.2.1 = some (tyX2 k) := by decide +kernel
abbrev cX2_init : ByteArray := prog_15_method_1_code
def yX2_init : MethodName := ⟨RX2, "<init>", "()V"⟩
def dkwX2_init_1 : List UInt8 := [42, 16, 8, 188, 10, 181, 0, 20, 42, 7, 188, 10, 181, 0, 23, 177]
abbrev dktX2_init_1 : List UInt8 := dkwX2_init_1 ++ []
def dkwX2_init_0 : List UInt8 := [42, 183, 0, 3, 42, 8, 17, 1, 0, 197, 0, 9, 2, 181, 0, 11, 42, 16, 8, 188, 10, 181, 0, 16]
abbrev dktX2_init_0 : List UInt8 := dkwX2_init_0 ++ dktX2_init_1
theorem dksX2_init_0 : cX2_init.data.toList.drop 0 = dktX2_init_0 := by decide +kernel
theorem dksX2_init_1 : cX2_init.data.toList.drop 24 = dktX2_init_1 := dk_seg dksX2_init_0 24 rfl rfl
theorem dX2_init_0 : decode cX2_init 0 = .ok (.aload_n 0, 1) := dk_42 (dk_at dksX2_init_0 0 rfl rfl)
theorem dX2_init_1 : decode cX2_init 1 = .ok (.invokespecial 3, 3) := dk_183 0 3 (dk_at dksX2_init_0 1 rfl rfl)
theorem dX2_init_4 : decode cX2_init 4 = .ok (.aload_n 0, 1) := dk_42 (dk_at dksX2_init_0 4 rfl rfl)
theorem dX2_init_5 : decode cX2_init 5 = .ok (.iconst 5, 1) := dk_8 (dk_at dksX2_init_0 5 rfl rfl)
theorem dX2_init_6 : decode cX2_init 6 = .ok (.sipush 256, 3) := dk_17 1 0 (dk_at dksX2_init_0 6 rfl rfl)
theorem dX2_init_9 : decode cX2_init 9 = .ok (.multianewarray 9 2, 4) := by decide +kernel
theorem dX2_init_13 : decode cX2_init 13 = .ok (.putfield 11, 3) := dk_181 0 11 (dk_at dksX2_init_0 13 rfl rfl)
theorem dX2_init_16 : decode cX2_init 16 = .ok (.aload_n 0, 1) := dk_42 (dk_at dksX2_init_0 16 rfl rfl)
theorem dX2_init_17 : decode cX2_init 17 = .ok (.bipush 8, 2) := dk_16 8 (dk_at dksX2_init_0 17 rfl rfl)
theorem dX2_init_19 : decode cX2_init 19 = .ok (.newarray .int, 2) := dk_188_10 (dk_at dksX2_init_0 19 rfl rfl)
theorem dX2_init_21 : decode cX2_init 21 = .ok (.putfield 16, 3) := dk_181 0 16 (dk_at dksX2_init_0 21 rfl rfl)
theorem dX2_init_24 : decode cX2_init 24 = .ok (.aload_n 0, 1) := dk_42 (dk_at dksX2_init_1 0 rfl rfl)
theorem dX2_init_25 : decode cX2_init 25 = .ok (.bipush 8, 2) := dk_16 8 (dk_at dksX2_init_1 1 rfl rfl)
theorem dX2_init_27 : decode cX2_init 27 = .ok (.newarray .int, 2) := dk_188_10 (dk_at dksX2_init_1 3 rfl rfl)
theorem dX2_init_29 : decode cX2_init 29 = .ok (.putfield 20, 3) := dk_181 0 20 (dk_at dksX2_init_1 5 rfl rfl)
theorem dX2_init_32 : decode cX2_init 32 = .ok (.aload_n 0, 1) := dk_42 (dk_at dksX2_init_1 8 rfl rfl)
theorem dX2_init_33 : decode cX2_init 33 = .ok (.iconst 4, 1) := dk_7 (dk_at dksX2_init_1 9 rfl rfl)
theorem dX2_init_34 : decode cX2_init 34 = .ok (.newarray .int, 2) := dk_188_10 (dk_at dksX2_init_1 10 rfl rfl)
theorem dX2_init_36 : decode cX2_init 36 = .ok (.putfield 23, 3) := dk_181 0 23 (dk_at dksX2_init_1 12 rfl rfl)
theorem dX2_init_39 : decode cX2_init 39 = .ok (.return_, 1) := dk_177 (dk_at dksX2_init_1 15 rfl rfl)
abbrev cX2_find : ByteArray := prog_15_method_2_code
def yX2_find : MethodName := ⟨RX2, "find", "(LNoFartherThanAThrow$World;IIII)[I"⟩
def dkwX2_find_4 : List UInt8 := [132, 8, 1, 167, 255, 196, 132, 7, 1, 167, 255, 165, 25, 6, 176]
abbrev dktX2_find_4 : List UInt8 := dkwX2_find_4 ++ []
def dkwX2_find_3 : List UInt8 := [4, 21, 8, 120, 2, 130, 126, 46, 43, 21, 8, 28, 182, 0, 38, 21, 4, 182, 0, 41, 184, 0, 45, 79]
abbrev dktX2_find_3 : List UInt8 := dkwX2_find_3 ++ dktX2_find_4
def dkwX2_find_2 : List UInt8 := [21, 7, 21, 8, 122, 4, 126, 153, 0, 41, 25, 6, 21, 7, 25, 6, 21, 7, 46, 43, 25, 6, 21, 7]
abbrev dktX2_find_2 : List UInt8 := dkwX2_find_2 ++ dktX2_find_3
def dkwX2_find_1 : List UInt8 := [25, 6, 21, 7, 29, 21, 4, 184, 0, 32, 79, 3, 54, 8, 21, 8, 43, 180, 0, 26, 162, 0, 57]
abbrev dktX2_find_1 : List UInt8 := dkwX2_find_1 ++ dktX2_find_2
def dkwX2_find_0 : List UInt8 := [42, 180, 0, 11, 21, 5, 50, 58, 6, 3, 54, 7, 21, 7, 4, 43, 180, 0, 26, 120, 162, 0, 86]
abbrev dktX2_find_0 : List UInt8 := dkwX2_find_0 ++ dktX2_find_1
theorem dksX2_find_0 : cX2_find.data.toList.drop 0 = dktX2_find_0 := by decide +kernel
theorem dksX2_find_1 : cX2_find.data.toList.drop 23 = dktX2_find_1 := dk_seg dksX2_find_0 23 rfl rfl
theorem dksX2_find_2 : cX2_find.data.toList.drop 46 = dktX2_find_2 := dk_seg dksX2_find_1 23 rfl rfl
theorem dksX2_find_3 : cX2_find.data.toList.drop 70 = dktX2_find_3 := dk_seg dksX2_find_2 24 rfl rfl
theorem dksX2_find_4 : cX2_find.data.toList.drop 94 = dktX2_find_4 := dk_seg dksX2_find_3 24 rfl rfl
theorem dX2_find_0 : decode cX2_find 0 = .ok (.aload_n 0, 1) := dk_42 (dk_at dksX2_find_0 0 rfl rfl)
theorem dX2_find_1 : decode cX2_find 1 = .ok (.getfield 11, 3) := dk_180 0 11 (dk_at dksX2_find_0 1 rfl rfl)
theorem dX2_find_4 : decode cX2_find 4 = .ok (.iload 5, 2) := dk_21 5 (dk_at dksX2_find_0 4 rfl rfl)
theorem dX2_find_6 : decode cX2_find 6 = .ok (.aaload, 1) := dk_50 (dk_at dksX2_find_0 6 rfl rfl)
theorem dX2_find_7 : decode cX2_find 7 = .ok (.astore 6, 2) := dk_58 6 (dk_at dksX2_find_0 7 rfl rfl)
theorem dX2_find_9 : decode cX2_find 9 = .ok (.iconst 0, 1) := dk_3 (dk_at dksX2_find_0 9 rfl rfl)
theorem dX2_find_10 : decode cX2_find 10 = .ok (.istore 7, 2) := dk_54 7 (dk_at dksX2_find_0 10 rfl rfl)
theorem dX2_find_12 : decode cX2_find 12 = .ok (.iload 7, 2) := dk_21 7 (dk_at dksX2_find_0 12 rfl rfl)
theorem dX2_find_14 : decode cX2_find 14 = .ok (.iconst 1, 1) := dk_4 (dk_at dksX2_find_0 14 rfl rfl)
theorem dX2_find_15 : decode cX2_find 15 = .ok (.aload_n 1, 1) := dk_43 (dk_at dksX2_find_0 15 rfl rfl)
theorem dX2_find_16 : decode cX2_find 16 = .ok (.getfield 26, 3) := dk_180 0 26 (dk_at dksX2_find_0 16 rfl rfl)
theorem dX2_find_19 : decode cX2_find 19 = .ok (.ishl, 1) := dk_120 (dk_at dksX2_find_0 19 rfl rfl)
theorem dX2_find_20 : decode cX2_find 20 = .ok (.if_icmp .ge 86, 3) := dk_162 0 86 (dk_at dksX2_find_0 20 rfl rfl)
theorem dX2_find_23 : decode cX2_find 23 = .ok (.aload 6, 2) := dk_25 6 (dk_at dksX2_find_1 0 rfl rfl)
theorem dX2_find_25 : decode cX2_find 25 = .ok (.iload 7, 2) := dk_21 7 (dk_at dksX2_find_1 2 rfl rfl)
theorem dX2_find_27 : decode cX2_find 27 = .ok (.iload_n 3, 1) := dk_29 (dk_at dksX2_find_1 4 rfl rfl)
theorem dX2_find_28 : decode cX2_find 28 = .ok (.iload 4, 2) := dk_21 4 (dk_at dksX2_find_1 5 rfl rfl)
theorem dX2_find_30 : decode cX2_find 30 = .ok (.invokestatic 32, 3) := dk_184 0 32 (dk_at dksX2_find_1 7 rfl rfl)
theorem dX2_find_33 : decode cX2_find 33 = .ok (.iastore, 1) := dk_79 (dk_at dksX2_find_1 10 rfl rfl)
theorem dX2_find_34 : decode cX2_find 34 = .ok (.iconst 0, 1) := dk_3 (dk_at dksX2_find_1 11 rfl rfl)
theorem dX2_find_35 : decode cX2_find 35 = .ok (.istore 8, 2) := dk_54 8 (dk_at dksX2_find_1 12 rfl rfl)
theorem dX2_find_37 : decode cX2_find 37 = .ok (.iload 8, 2) := dk_21 8 (dk_at dksX2_find_1 14 rfl rfl)
theorem dX2_find_39 : decode cX2_find 39 = .ok (.aload_n 1, 1) := dk_43 (dk_at dksX2_find_1 16 rfl rfl)
theorem dX2_find_40 : decode cX2_find 40 = .ok (.getfield 26, 3) := dk_180 0 26 (dk_at dksX2_find_1 17 rfl rfl)
theorem dX2_find_43 : decode cX2_find 43 = .ok (.if_icmp .ge 57, 3) := dk_162 0 57 (dk_at dksX2_find_1 20 rfl rfl)
theorem dX2_find_46 : decode cX2_find 46 = .ok (.iload 7, 2) := dk_21 7 (dk_at dksX2_find_2 0 rfl rfl)
theorem dX2_find_48 : decode cX2_find 48 = .ok (.iload 8, 2) := dk_21 8 (dk_at dksX2_find_2 2 rfl rfl)
theorem dX2_find_50 : decode cX2_find 50 = .ok (.ishr, 1) := dk_122 (dk_at dksX2_find_2 4 rfl rfl)
theorem dX2_find_51 : decode cX2_find 51 = .ok (.iconst 1, 1) := dk_4 (dk_at dksX2_find_2 5 rfl rfl)
theorem dX2_find_52 : decode cX2_find 52 = .ok (.iand, 1) := dk_126 (dk_at dksX2_find_2 6 rfl rfl)
theorem dX2_find_53 : decode cX2_find 53 = .ok (.ifCond .eq 41, 3) := dk_153 0 41 (dk_at dksX2_find_2 7 rfl rfl)
theorem dX2_find_56 : decode cX2_find 56 = .ok (.aload 6, 2) := dk_25 6 (dk_at dksX2_find_2 10 rfl rfl)
theorem dX2_find_58 : decode cX2_find 58 = .ok (.iload 7, 2) := dk_21 7 (dk_at dksX2_find_2 12 rfl rfl)
theorem dX2_find_60 : decode cX2_find 60 = .ok (.aload 6, 2) := dk_25 6 (dk_at dksX2_find_2 14 rfl rfl)
theorem dX2_find_62 : decode cX2_find 62 = .ok (.iload 7, 2) := dk_21 7 (dk_at dksX2_find_2 16 rfl rfl)
theorem dX2_find_64 : decode cX2_find 64 = .ok (.iaload, 1) := dk_46 (dk_at dksX2_find_2 18 rfl rfl)
theorem dX2_find_65 : decode cX2_find 65 = .ok (.aload_n 1, 1) := dk_43 (dk_at dksX2_find_2 19 rfl rfl)
theorem dX2_find_66 : decode cX2_find 66 = .ok (.aload 6, 2) := dk_25 6 (dk_at dksX2_find_2 20 rfl rfl)
theorem dX2_find_68 : decode cX2_find 68 = .ok (.iload 7, 2) := dk_21 7 (dk_at dksX2_find_2 22 rfl rfl)
theorem dX2_find_70 : decode cX2_find 70 = .ok (.iconst 1, 1) := dk_4 (dk_at dksX2_find_3 0 rfl rfl)
theorem dX2_find_71 : decode cX2_find 71 = .ok (.iload 8, 2) := dk_21 8 (dk_at dksX2_find_3 1 rfl rfl)
theorem dX2_find_73 : decode cX2_find 73 = .ok (.ishl, 1) := dk_120 (dk_at dksX2_find_3 3 rfl rfl)
theorem dX2_find_74 : decode cX2_find 74 = .ok (.iconst (-1), 1) := dk_2 (dk_at dksX2_find_3 4 rfl rfl)
theorem dX2_find_75 : decode cX2_find 75 = .ok (.ixor, 1) := dk_130 (dk_at dksX2_find_3 5 rfl rfl)
theorem dX2_find_76 : decode cX2_find 76 = .ok (.iand, 1) := dk_126 (dk_at dksX2_find_3 6 rfl rfl)
theorem dX2_find_77 : decode cX2_find 77 = .ok (.iaload, 1) := dk_46 (dk_at dksX2_find_3 7 rfl rfl)
theorem dX2_find_78 : decode cX2_find 78 = .ok (.aload_n 1, 1) := dk_43 (dk_at dksX2_find_3 8 rfl rfl)
theorem dX2_find_79 : decode cX2_find 79 = .ok (.iload 8, 2) := dk_21 8 (dk_at dksX2_find_3 9 rfl rfl)
theorem dX2_find_81 : decode cX2_find 81 = .ok (.iload_n 2, 1) := dk_28 (dk_at dksX2_find_3 11 rfl rfl)
theorem dX2_find_82 : decode cX2_find 82 = .ok (.invokevirtual 38, 3) := dk_182 0 38 (dk_at dksX2_find_3 12 rfl rfl)
theorem dX2_find_85 : decode cX2_find 85 = .ok (.iload 4, 2) := dk_21 4 (dk_at dksX2_find_3 15 rfl rfl)
theorem dX2_find_87 : decode cX2_find 87 = .ok (.invokevirtual 41, 3) := dk_182 0 41 (dk_at dksX2_find_3 17 rfl rfl)
theorem dX2_find_90 : decode cX2_find 90 = .ok (.invokestatic 45, 3) := dk_184 0 45 (dk_at dksX2_find_3 20 rfl rfl)
theorem dX2_find_93 : decode cX2_find 93 = .ok (.iastore, 1) := dk_79 (dk_at dksX2_find_3 23 rfl rfl)
theorem dX2_find_94 : decode cX2_find 94 = .ok (.iinc 8 1, 3) := dk_132 8 1 (dk_at dksX2_find_4 0 rfl rfl)
theorem dX2_find_97 : decode cX2_find 97 = .ok (.goto (-60), 3) := dk_167 255 196 (dk_at dksX2_find_4 3 rfl rfl)
theorem dX2_find_100 : decode cX2_find 100 = .ok (.iinc 7 1, 3) := dk_132 7 1 (dk_at dksX2_find_4 6 rfl rfl)
theorem dX2_find_103 : decode cX2_find 103 = .ok (.goto (-91), 3) := dk_167 255 165 (dk_at dksX2_find_4 9 rfl rfl)
theorem dX2_find_106 : decode cX2_find 106 = .ok (.aload 6, 2) := dk_25 6 (dk_at dksX2_find_4 12 rfl rfl)
theorem dX2_find_108 : decode cX2_find 108 = .ok (.areturn, 1) := dk_176 (dk_at dksX2_find_4 14 rfl rfl)
abbrev cX2_share : ByteArray := prog_15_method_3_code
def yX2_share : MethodName := ⟨RX2, "share", "(LNoFartherThanAThrow$World;)V"⟩
def dkwX2_share_2 : List UInt8 := [132, 2, 1, 167, 255, 208, 42, 2, 181, 0, 64, 42, 43, 3, 182, 0, 67, 177]
abbrev dktX2_share_2 : List UInt8 := dkwX2_share_2 ++ []
def dkwX2_share_1 : List UInt8 := [180, 0, 51, 28, 46, 46, 43, 180, 0, 57, 28, 46, 28, 182, 0, 60, 87, 42, 180, 0, 23, 28, 3, 79]
abbrev dktX2_share_1 : List UInt8 := dkwX2_share_1 ++ dktX2_share_2
def dkwX2_share_0 : List UInt8 := [3, 61, 28, 43, 180, 0, 48, 162, 0, 46, 42, 43, 43, 180, 0, 51, 28, 46, 43, 180, 0, 54, 43]
abbrev dktX2_share_0 : List UInt8 := dkwX2_share_0 ++ dktX2_share_1
theorem dksX2_share_0 : cX2_share.data.toList.drop 0 = dktX2_share_0 := by decide +kernel
theorem dksX2_share_1 : cX2_share.data.toList.drop 23 = dktX2_share_1 := dk_seg dksX2_share_0 23 rfl rfl
theorem dksX2_share_2 : cX2_share.data.toList.drop 47 = dktX2_share_2 := dk_seg dksX2_share_1 24 rfl rfl
theorem dX2_share_0 : decode cX2_share 0 = .ok (.iconst 0, 1) := dk_3 (dk_at dksX2_share_0 0 rfl rfl)
theorem dX2_share_1 : decode cX2_share 1 = .ok (.istore_n 2, 1) := dk_61 (dk_at dksX2_share_0 1 rfl rfl)
theorem dX2_share_2 : decode cX2_share 2 = .ok (.iload_n 2, 1) := dk_28 (dk_at dksX2_share_0 2 rfl rfl)
theorem dX2_share_3 : decode cX2_share 3 = .ok (.aload_n 1, 1) := dk_43 (dk_at dksX2_share_0 3 rfl rfl)
theorem dX2_share_4 : decode cX2_share 4 = .ok (.getfield 48, 3) := dk_180 0 48 (dk_at dksX2_share_0 4 rfl rfl)
theorem dX2_share_7 : decode cX2_share 7 = .ok (.if_icmp .ge 46, 3) := dk_162 0 46 (dk_at dksX2_share_0 7 rfl rfl)
theorem dX2_share_10 : decode cX2_share 10 = .ok (.aload_n 0, 1) := dk_42 (dk_at dksX2_share_0 10 rfl rfl)
theorem dX2_share_11 : decode cX2_share 11 = .ok (.aload_n 1, 1) := dk_43 (dk_at dksX2_share_0 11 rfl rfl)
theorem dX2_share_12 : decode cX2_share 12 = .ok (.aload_n 1, 1) := dk_43 (dk_at dksX2_share_0 12 rfl rfl)
theorem dX2_share_13 : decode cX2_share 13 = .ok (.getfield 51, 3) := dk_180 0 51 (dk_at dksX2_share_0 13 rfl rfl)
theorem dX2_share_16 : decode cX2_share 16 = .ok (.iload_n 2, 1) := dk_28 (dk_at dksX2_share_0 16 rfl rfl)
theorem dX2_share_17 : decode cX2_share 17 = .ok (.iaload, 1) := dk_46 (dk_at dksX2_share_0 17 rfl rfl)
theorem dX2_share_18 : decode cX2_share 18 = .ok (.aload_n 1, 1) := dk_43 (dk_at dksX2_share_0 18 rfl rfl)
theorem dX2_share_19 : decode cX2_share 19 = .ok (.getfield 54, 3) := dk_180 0 54 (dk_at dksX2_share_0 19 rfl rfl)
theorem dX2_share_22 : decode cX2_share 22 = .ok (.aload_n 1, 1) := dk_43 (dk_at dksX2_share_0 22 rfl rfl)
theorem dX2_share_23 : decode cX2_share 23 = .ok (.getfield 51, 3) := dk_180 0 51 (dk_at dksX2_share_1 0 rfl rfl)
theorem dX2_share_26 : decode cX2_share 26 = .ok (.iload_n 2, 1) := dk_28 (dk_at dksX2_share_1 3 rfl rfl)
theorem dX2_share_27 : decode cX2_share 27 = .ok (.iaload, 1) := dk_46 (dk_at dksX2_share_1 4 rfl rfl)
theorem dX2_share_28 : decode cX2_share 28 = .ok (.iaload, 1) := dk_46 (dk_at dksX2_share_1 5 rfl rfl)
theorem dX2_share_29 : decode cX2_share 29 = .ok (.aload_n 1, 1) := dk_43 (dk_at dksX2_share_1 6 rfl rfl)
theorem dX2_share_30 : decode cX2_share 30 = .ok (.getfield 57, 3) := dk_180 0 57 (dk_at dksX2_share_1 7 rfl rfl)
theorem dX2_share_33 : decode cX2_share 33 = .ok (.iload_n 2, 1) := dk_28 (dk_at dksX2_share_1 10 rfl rfl)
theorem dX2_share_34 : decode cX2_share 34 = .ok (.iaload, 1) := dk_46 (dk_at dksX2_share_1 11 rfl rfl)
theorem dX2_share_35 : decode cX2_share 35 = .ok (.iload_n 2, 1) := dk_28 (dk_at dksX2_share_1 12 rfl rfl)
theorem dX2_share_36 : decode cX2_share 36 = .ok (.invokevirtual 60, 3) := dk_182 0 60 (dk_at dksX2_share_1 13 rfl rfl)
theorem dX2_share_39 : decode cX2_share 39 = .ok (.pop, 1) := dk_87 (dk_at dksX2_share_1 16 rfl rfl)
theorem dX2_share_40 : decode cX2_share 40 = .ok (.aload_n 0, 1) := dk_42 (dk_at dksX2_share_1 17 rfl rfl)
theorem dX2_share_41 : decode cX2_share 41 = .ok (.getfield 23, 3) := dk_180 0 23 (dk_at dksX2_share_1 18 rfl rfl)
theorem dX2_share_44 : decode cX2_share 44 = .ok (.iload_n 2, 1) := dk_28 (dk_at dksX2_share_1 21 rfl rfl)
theorem dX2_share_45 : decode cX2_share 45 = .ok (.iconst 0, 1) := dk_3 (dk_at dksX2_share_1 22 rfl rfl)
theorem dX2_share_46 : decode cX2_share 46 = .ok (.iastore, 1) := dk_79 (dk_at dksX2_share_1 23 rfl rfl)
theorem dX2_share_47 : decode cX2_share 47 = .ok (.iinc 2 1, 3) := dk_132 2 1 (dk_at dksX2_share_2 0 rfl rfl)
theorem dX2_share_50 : decode cX2_share 50 = .ok (.goto (-48), 3) := dk_167 255 208 (dk_at dksX2_share_2 3 rfl rfl)
theorem dX2_share_53 : decode cX2_share 53 = .ok (.aload_n 0, 1) := dk_42 (dk_at dksX2_share_2 6 rfl rfl)
theorem dX2_share_54 : decode cX2_share 54 = .ok (.iconst (-1), 1) := dk_2 (dk_at dksX2_share_2 7 rfl rfl)
theorem dX2_share_55 : decode cX2_share 55 = .ok (.putfield 64, 3) := dk_181 0 64 (dk_at dksX2_share_2 8 rfl rfl)
theorem dX2_share_58 : decode cX2_share 58 = .ok (.aload_n 0, 1) := dk_42 (dk_at dksX2_share_2 11 rfl rfl)
theorem dX2_share_59 : decode cX2_share 59 = .ok (.aload_n 1, 1) := dk_43 (dk_at dksX2_share_2 12 rfl rfl)
theorem dX2_share_60 : decode cX2_share 60 = .ok (.iconst 0, 1) := dk_3 (dk_at dksX2_share_2 13 rfl rfl)
theorem dX2_share_61 : decode cX2_share 61 = .ok (.invokevirtual 67, 3) := dk_182 0 67 (dk_at dksX2_share_2 14 rfl rfl)
theorem dX2_share_64 : decode cX2_share 64 = .ok (.return_, 1) := dk_177 (dk_at dksX2_share_2 17 rfl rfl)
abbrev cX2_gives : ByteArray := prog_15_method_5_code
def yX2_gives : MethodName := ⟨RX2, "gives", "(LNoFartherThanAThrow$World;I)V"⟩
def dkwX2_gives_6 : List UInt8 := [92, 46, 4, 28, 120, 2, 130, 126, 79, 132, 3, 1, 167, 255, 204, 177]
abbrev dktX2_gives_6 : List UInt8 := dkwX2_gives_6 ++ []
def dkwX2_gives_5 : List UInt8 := [180, 0, 23, 29, 92, 46, 4, 28, 120, 128, 79, 42, 43, 28, 4, 96, 182, 0, 67, 42, 180, 0, 23, 29]
abbrev dktX2_gives_5 : List UInt8 := dkwX2_gives_5 ++ dktX2_gives_6
def dkwX2_gives_4 : List UInt8 := [96, 182, 0, 67, 3, 62, 29, 43, 180, 0, 48, 162, 0, 50, 42, 180, 0, 16, 28, 29, 79, 42]
abbrev dktX2_gives_4 : List UInt8 := dkwX2_gives_4 ++ dktX2_gives_5
def dkwX2_gives_3 : List UInt8 := [42, 180, 0, 20, 3, 43, 180, 0, 26, 184, 0, 78, 177, 42, 180, 0, 16, 28, 2, 79, 42, 43, 28, 4]
abbrev dktX2_gives_3 : List UInt8 := dkwX2_gives_3 ++ dktX2_gives_4
def dkwX2_gives_2 : List UInt8 := [132, 4, 1, 167, 255, 220, 29, 42, 180, 0, 64, 164, 0, 25, 42, 29, 181, 0, 64, 42, 180, 0, 16, 3]
abbrev dktX2_gives_2 : List UInt8 := dkwX2_gives_2 ++ dktX2_gives_3
def dkwX2_gives_1 : List UInt8 := [43, 21, 4, 182, 0, 71, 153, 0, 13, 43, 180, 0, 75, 21, 4, 46, 167, 0, 4, 3, 96, 62]
abbrev dktX2_gives_1 : List UInt8 := dkwX2_gives_1 ++ dktX2_gives_2
def dkwX2_gives_0 : List UInt8 := [28, 43, 180, 0, 26, 160, 0, 78, 3, 62, 3, 54, 4, 21, 4, 43, 180, 0, 48, 162, 0, 33, 29, 42]
abbrev dktX2_gives_0 : List UInt8 := dkwX2_gives_0 ++ dktX2_gives_1
theorem dksX2_gives_0 : cX2_gives.data.toList.drop 0 = dktX2_gives_0 := by decide +kernel
theorem dksX2_gives_1 : cX2_gives.data.toList.drop 24 = dktX2_gives_1 := dk_seg dksX2_gives_0 24 rfl rfl
theorem dksX2_gives_2 : cX2_gives.data.toList.drop 46 = dktX2_gives_2 := dk_seg dksX2_gives_1 22 rfl rfl
theorem dksX2_gives_3 : cX2_gives.data.toList.drop 70 = dktX2_gives_3 := dk_seg dksX2_gives_2 24 rfl rfl
theorem dksX2_gives_4 : cX2_gives.data.toList.drop 94 = dktX2_gives_4 := dk_seg dksX2_gives_3 24 rfl rfl
theorem dksX2_gives_5 : cX2_gives.data.toList.drop 116 = dktX2_gives_5 := dk_seg dksX2_gives_4 22 rfl rfl
theorem dksX2_gives_6 : cX2_gives.data.toList.drop 140 = dktX2_gives_6 := dk_seg dksX2_gives_5 24 rfl rfl
theorem dX2_gives_0 : decode cX2_gives 0 = .ok (.iload_n 2, 1) := dk_28 (dk_at dksX2_gives_0 0 rfl rfl)
theorem dX2_gives_1 : decode cX2_gives 1 = .ok (.aload_n 1, 1) := dk_43 (dk_at dksX2_gives_0 1 rfl rfl)
theorem dX2_gives_2 : decode cX2_gives 2 = .ok (.getfield 26, 3) := dk_180 0 26 (dk_at dksX2_gives_0 2 rfl rfl)
theorem dX2_gives_5 : decode cX2_gives 5 = .ok (.if_icmp .ne 78, 3) := dk_160 0 78 (dk_at dksX2_gives_0 5 rfl rfl)
theorem dX2_gives_8 : decode cX2_gives 8 = .ok (.iconst 0, 1) := dk_3 (dk_at dksX2_gives_0 8 rfl rfl)
theorem dX2_gives_9 : decode cX2_gives 9 = .ok (.istore_n 3, 1) := dk_62 (dk_at dksX2_gives_0 9 rfl rfl)
theorem dX2_gives_10 : decode cX2_gives 10 = .ok (.iconst 0, 1) := dk_3 (dk_at dksX2_gives_0 10 rfl rfl)
theorem dX2_gives_11 : decode cX2_gives 11 = .ok (.istore 4, 2) := dk_54 4 (dk_at dksX2_gives_0 11 rfl rfl)
theorem dX2_gives_13 : decode cX2_gives 13 = .ok (.iload 4, 2) := dk_21 4 (dk_at dksX2_gives_0 13 rfl rfl)
theorem dX2_gives_15 : decode cX2_gives 15 = .ok (.aload_n 1, 1) := dk_43 (dk_at dksX2_gives_0 15 rfl rfl)
theorem dX2_gives_16 : decode cX2_gives 16 = .ok (.getfield 48, 3) := dk_180 0 48 (dk_at dksX2_gives_0 16 rfl rfl)
theorem dX2_gives_19 : decode cX2_gives 19 = .ok (.if_icmp .ge 33, 3) := dk_162 0 33 (dk_at dksX2_gives_0 19 rfl rfl)
theorem dX2_gives_22 : decode cX2_gives 22 = .ok (.iload_n 3, 1) := dk_29 (dk_at dksX2_gives_0 22 rfl rfl)
theorem dX2_gives_23 : decode cX2_gives 23 = .ok (.aload_n 0, 1) := dk_42 (dk_at dksX2_gives_0 23 rfl rfl)
theorem dX2_gives_24 : decode cX2_gives 24 = .ok (.aload_n 1, 1) := dk_43 (dk_at dksX2_gives_1 0 rfl rfl)
theorem dX2_gives_25 : decode cX2_gives 25 = .ok (.iload 4, 2) := dk_21 4 (dk_at dksX2_gives_1 1 rfl rfl)
theorem dX2_gives_27 : decode cX2_gives 27 = .ok (.invokevirtual 71, 3) := dk_182 0 71 (dk_at dksX2_gives_1 3 rfl rfl)
theorem dX2_gives_30 : decode cX2_gives 30 = .ok (.ifCond .eq 13, 3) := dk_153 0 13 (dk_at dksX2_gives_1 6 rfl rfl)
theorem dX2_gives_33 : decode cX2_gives 33 = .ok (.aload_n 1, 1) := dk_43 (dk_at dksX2_gives_1 9 rfl rfl)
theorem dX2_gives_34 : decode cX2_gives 34 = .ok (.getfield 75, 3) := dk_180 0 75 (dk_at dksX2_gives_1 10 rfl rfl)
theorem dX2_gives_37 : decode cX2_gives 37 = .ok (.iload 4, 2) := dk_21 4 (dk_at dksX2_gives_1 13 rfl rfl)
theorem dX2_gives_39 : decode cX2_gives 39 = .ok (.iaload, 1) := dk_46 (dk_at dksX2_gives_1 15 rfl rfl)
theorem dX2_gives_40 : decode cX2_gives 40 = .ok (.goto 4, 3) := dk_167 0 4 (dk_at dksX2_gives_1 16 rfl rfl)
theorem dX2_gives_43 : decode cX2_gives 43 = .ok (.iconst 0, 1) := dk_3 (dk_at dksX2_gives_1 19 rfl rfl)
theorem dX2_gives_44 : decode cX2_gives 44 = .ok (.iadd, 1) := dk_96 (dk_at dksX2_gives_1 20 rfl rfl)
theorem dX2_gives_45 : decode cX2_gives 45 = .ok (.istore_n 3, 1) := dk_62 (dk_at dksX2_gives_1 21 rfl rfl)
theorem dX2_gives_46 : decode cX2_gives 46 = .ok (.iinc 4 1, 3) := dk_132 4 1 (dk_at dksX2_gives_2 0 rfl rfl)
theorem dX2_gives_49 : decode cX2_gives 49 = .ok (.goto (-36), 3) := dk_167 255 220 (dk_at dksX2_gives_2 3 rfl rfl)
theorem dX2_gives_52 : decode cX2_gives 52 = .ok (.iload_n 3, 1) := dk_29 (dk_at dksX2_gives_2 6 rfl rfl)
theorem dX2_gives_53 : decode cX2_gives 53 = .ok (.aload_n 0, 1) := dk_42 (dk_at dksX2_gives_2 7 rfl rfl)
theorem dX2_gives_54 : decode cX2_gives 54 = .ok (.getfield 64, 3) := dk_180 0 64 (dk_at dksX2_gives_2 8 rfl rfl)
theorem dX2_gives_57 : decode cX2_gives 57 = .ok (.if_icmp .le 25, 3) := dk_164 0 25 (dk_at dksX2_gives_2 11 rfl rfl)
theorem dX2_gives_60 : decode cX2_gives 60 = .ok (.aload_n 0, 1) := dk_42 (dk_at dksX2_gives_2 14 rfl rfl)
theorem dX2_gives_61 : decode cX2_gives 61 = .ok (.iload_n 3, 1) := dk_29 (dk_at dksX2_gives_2 15 rfl rfl)
theorem dX2_gives_62 : decode cX2_gives 62 = .ok (.putfield 64, 3) := dk_181 0 64 (dk_at dksX2_gives_2 16 rfl rfl)
theorem dX2_gives_65 : decode cX2_gives 65 = .ok (.aload_n 0, 1) := dk_42 (dk_at dksX2_gives_2 19 rfl rfl)
theorem dX2_gives_66 : decode cX2_gives 66 = .ok (.getfield 16, 3) := dk_180 0 16 (dk_at dksX2_gives_2 20 rfl rfl)
theorem dX2_gives_69 : decode cX2_gives 69 = .ok (.iconst 0, 1) := dk_3 (dk_at dksX2_gives_2 23 rfl rfl)
theorem dX2_gives_70 : decode cX2_gives 70 = .ok (.aload_n 0, 1) := dk_42 (dk_at dksX2_gives_3 0 rfl rfl)
theorem dX2_gives_71 : decode cX2_gives 71 = .ok (.getfield 20, 3) := dk_180 0 20 (dk_at dksX2_gives_3 1 rfl rfl)
theorem dX2_gives_74 : decode cX2_gives 74 = .ok (.iconst 0, 1) := dk_3 (dk_at dksX2_gives_3 4 rfl rfl)
theorem dX2_gives_75 : decode cX2_gives 75 = .ok (.aload_n 1, 1) := dk_43 (dk_at dksX2_gives_3 5 rfl rfl)
theorem dX2_gives_76 : decode cX2_gives 76 = .ok (.getfield 26, 3) := dk_180 0 26 (dk_at dksX2_gives_3 6 rfl rfl)
theorem dX2_gives_79 : decode cX2_gives 79 = .ok (.invokestatic 78, 3) := dk_184 0 78 (dk_at dksX2_gives_3 9 rfl rfl)
theorem dX2_gives_82 : decode cX2_gives 82 = .ok (.return_, 1) := dk_177 (dk_at dksX2_gives_3 12 rfl rfl)
theorem dX2_gives_83 : decode cX2_gives 83 = .ok (.aload_n 0, 1) := dk_42 (dk_at dksX2_gives_3 13 rfl rfl)
theorem dX2_gives_84 : decode cX2_gives 84 = .ok (.getfield 16, 3) := dk_180 0 16 (dk_at dksX2_gives_3 14 rfl rfl)
theorem dX2_gives_87 : decode cX2_gives 87 = .ok (.iload_n 2, 1) := dk_28 (dk_at dksX2_gives_3 17 rfl rfl)
theorem dX2_gives_88 : decode cX2_gives 88 = .ok (.iconst (-1), 1) := dk_2 (dk_at dksX2_gives_3 18 rfl rfl)
theorem dX2_gives_89 : decode cX2_gives 89 = .ok (.iastore, 1) := dk_79 (dk_at dksX2_gives_3 19 rfl rfl)
theorem dX2_gives_90 : decode cX2_gives 90 = .ok (.aload_n 0, 1) := dk_42 (dk_at dksX2_gives_3 20 rfl rfl)
theorem dX2_gives_91 : decode cX2_gives 91 = .ok (.aload_n 1, 1) := dk_43 (dk_at dksX2_gives_3 21 rfl rfl)
theorem dX2_gives_92 : decode cX2_gives 92 = .ok (.iload_n 2, 1) := dk_28 (dk_at dksX2_gives_3 22 rfl rfl)
theorem dX2_gives_93 : decode cX2_gives 93 = .ok (.iconst 1, 1) := dk_4 (dk_at dksX2_gives_3 23 rfl rfl)
theorem dX2_gives_94 : decode cX2_gives 94 = .ok (.iadd, 1) := dk_96 (dk_at dksX2_gives_4 0 rfl rfl)
theorem dX2_gives_95 : decode cX2_gives 95 = .ok (.invokevirtual 67, 3) := dk_182 0 67 (dk_at dksX2_gives_4 1 rfl rfl)
theorem dX2_gives_98 : decode cX2_gives 98 = .ok (.iconst 0, 1) := dk_3 (dk_at dksX2_gives_4 4 rfl rfl)
theorem dX2_gives_99 : decode cX2_gives 99 = .ok (.istore_n 3, 1) := dk_62 (dk_at dksX2_gives_4 5 rfl rfl)
theorem dX2_gives_100 : decode cX2_gives 100 = .ok (.iload_n 3, 1) := dk_29 (dk_at dksX2_gives_4 6 rfl rfl)
theorem dX2_gives_101 : decode cX2_gives 101 = .ok (.aload_n 1, 1) := dk_43 (dk_at dksX2_gives_4 7 rfl rfl)
theorem dX2_gives_102 : decode cX2_gives 102 = .ok (.getfield 48, 3) := dk_180 0 48 (dk_at dksX2_gives_4 8 rfl rfl)
theorem dX2_gives_105 : decode cX2_gives 105 = .ok (.if_icmp .ge 50, 3) := dk_162 0 50 (dk_at dksX2_gives_4 11 rfl rfl)
theorem dX2_gives_108 : decode cX2_gives 108 = .ok (.aload_n 0, 1) := dk_42 (dk_at dksX2_gives_4 14 rfl rfl)
theorem dX2_gives_109 : decode cX2_gives 109 = .ok (.getfield 16, 3) := dk_180 0 16 (dk_at dksX2_gives_4 15 rfl rfl)
theorem dX2_gives_112 : decode cX2_gives 112 = .ok (.iload_n 2, 1) := dk_28 (dk_at dksX2_gives_4 18 rfl rfl)
theorem dX2_gives_113 : decode cX2_gives 113 = .ok (.iload_n 3, 1) := dk_29 (dk_at dksX2_gives_4 19 rfl rfl)
theorem dX2_gives_114 : decode cX2_gives 114 = .ok (.iastore, 1) := dk_79 (dk_at dksX2_gives_4 20 rfl rfl)
theorem dX2_gives_115 : decode cX2_gives 115 = .ok (.aload_n 0, 1) := dk_42 (dk_at dksX2_gives_4 21 rfl rfl)
theorem dX2_gives_116 : decode cX2_gives 116 = .ok (.getfield 23, 3) := dk_180 0 23 (dk_at dksX2_gives_5 0 rfl rfl)
theorem dX2_gives_119 : decode cX2_gives 119 = .ok (.iload_n 3, 1) := dk_29 (dk_at dksX2_gives_5 3 rfl rfl)
theorem dX2_gives_120 : decode cX2_gives 120 = .ok (.dup2, 1) := dk_92 (dk_at dksX2_gives_5 4 rfl rfl)
theorem dX2_gives_121 : decode cX2_gives 121 = .ok (.iaload, 1) := dk_46 (dk_at dksX2_gives_5 5 rfl rfl)
theorem dX2_gives_122 : decode cX2_gives 122 = .ok (.iconst 1, 1) := dk_4 (dk_at dksX2_gives_5 6 rfl rfl)
theorem dX2_gives_123 : decode cX2_gives 123 = .ok (.iload_n 2, 1) := dk_28 (dk_at dksX2_gives_5 7 rfl rfl)
theorem dX2_gives_124 : decode cX2_gives 124 = .ok (.ishl, 1) := dk_120 (dk_at dksX2_gives_5 8 rfl rfl)
theorem dX2_gives_125 : decode cX2_gives 125 = .ok (.ior, 1) := dk_128 (dk_at dksX2_gives_5 9 rfl rfl)
theorem dX2_gives_126 : decode cX2_gives 126 = .ok (.iastore, 1) := dk_79 (dk_at dksX2_gives_5 10 rfl rfl)
theorem dX2_gives_127 : decode cX2_gives 127 = .ok (.aload_n 0, 1) := dk_42 (dk_at dksX2_gives_5 11 rfl rfl)
theorem dX2_gives_128 : decode cX2_gives 128 = .ok (.aload_n 1, 1) := dk_43 (dk_at dksX2_gives_5 12 rfl rfl)
theorem dX2_gives_129 : decode cX2_gives 129 = .ok (.iload_n 2, 1) := dk_28 (dk_at dksX2_gives_5 13 rfl rfl)
theorem dX2_gives_130 : decode cX2_gives 130 = .ok (.iconst 1, 1) := dk_4 (dk_at dksX2_gives_5 14 rfl rfl)
theorem dX2_gives_131 : decode cX2_gives 131 = .ok (.iadd, 1) := dk_96 (dk_at dksX2_gives_5 15 rfl rfl)
theorem dX2_gives_132 : decode cX2_gives 132 = .ok (.invokevirtual 67, 3) := dk_182 0 67 (dk_at dksX2_gives_5 16 rfl rfl)
theorem dX2_gives_135 : decode cX2_gives 135 = .ok (.aload_n 0, 1) := dk_42 (dk_at dksX2_gives_5 19 rfl rfl)
theorem dX2_gives_136 : decode cX2_gives 136 = .ok (.getfield 23, 3) := dk_180 0 23 (dk_at dksX2_gives_5 20 rfl rfl)
theorem dX2_gives_139 : decode cX2_gives 139 = .ok (.iload_n 3, 1) := dk_29 (dk_at dksX2_gives_5 23 rfl rfl)
theorem dX2_gives_140 : decode cX2_gives 140 = .ok (.dup2, 1) := dk_92 (dk_at dksX2_gives_6 0 rfl rfl)
theorem dX2_gives_141 : decode cX2_gives 141 = .ok (.iaload, 1) := dk_46 (dk_at dksX2_gives_6 1 rfl rfl)
theorem dX2_gives_142 : decode cX2_gives 142 = .ok (.iconst 1, 1) := dk_4 (dk_at dksX2_gives_6 2 rfl rfl)
theorem dX2_gives_143 : decode cX2_gives 143 = .ok (.iload_n 2, 1) := dk_28 (dk_at dksX2_gives_6 3 rfl rfl)
theorem dX2_gives_144 : decode cX2_gives 144 = .ok (.ishl, 1) := dk_120 (dk_at dksX2_gives_6 4 rfl rfl)
theorem dX2_gives_145 : decode cX2_gives 145 = .ok (.iconst (-1), 1) := dk_2 (dk_at dksX2_gives_6 5 rfl rfl)
theorem dX2_gives_146 : decode cX2_gives 146 = .ok (.ixor, 1) := dk_130 (dk_at dksX2_gives_6 6 rfl rfl)
theorem dX2_gives_147 : decode cX2_gives 147 = .ok (.iand, 1) := dk_126 (dk_at dksX2_gives_6 7 rfl rfl)
theorem dX2_gives_148 : decode cX2_gives 148 = .ok (.iastore, 1) := dk_79 (dk_at dksX2_gives_6 8 rfl rfl)
theorem dX2_gives_149 : decode cX2_gives 149 = .ok (.iinc 3 1, 3) := dk_132 3 1 (dk_at dksX2_gives_6 9 rfl rfl)
theorem dX2_gives_152 : decode cX2_gives 152 = .ok (.goto (-52), 3) := dk_167 255 204 (dk_at dksX2_gives_6 12 rfl rfl)
theorem dX2_gives_155 : decode cX2_gives 155 = .ok (.return_, 1) := dk_177 (dk_at dksX2_gives_6 15 rfl rfl)
abbrev cX2_isMet : ByteArray := prog_15_method_4_code
def yX2_isMet : MethodName := ⟨RX2, "isMet", "(LNoFartherThanAThrow$World;I)Z"⟩
def dkwX2_isMet_2 : List UInt8 := [167, 0, 4, 3, 172]
abbrev dktX2_isMet_2 : List UInt8 := dkwX2_isMet_2 ++ []
def dkwX2_isMet_1 : List UInt8 := [180, 0, 11, 28, 50, 42, 180, 0, 23, 28, 46, 46, 43, 180, 0, 57, 28, 46, 160, 0, 7, 4]
abbrev dktX2_isMet_1 : List UInt8 := dkwX2_isMet_1 ++ dktX2_isMet_2
def dkwX2_isMet_0 : List UInt8 := [43, 180, 0, 54, 43, 180, 0, 51, 28, 46, 46, 62, 29, 43, 180, 0, 57, 28, 46, 163, 0, 29, 42]
abbrev dktX2_isMet_0 : List UInt8 := dkwX2_isMet_0 ++ dktX2_isMet_1
theorem dksX2_isMet_0 : cX2_isMet.data.toList.drop 0 = dktX2_isMet_0 := by decide +kernel
theorem dksX2_isMet_1 : cX2_isMet.data.toList.drop 23 = dktX2_isMet_1 := dk_seg dksX2_isMet_0 23 rfl rfl
theorem dksX2_isMet_2 : cX2_isMet.data.toList.drop 45 = dktX2_isMet_2 := dk_seg dksX2_isMet_1 22 rfl rfl
theorem dX2_isMet_0 : decode cX2_isMet 0 = .ok (.aload_n 1, 1) := dk_43 (dk_at dksX2_isMet_0 0 rfl rfl)
theorem dX2_isMet_1 : decode cX2_isMet 1 = .ok (.getfield 54, 3) := dk_180 0 54 (dk_at dksX2_isMet_0 1 rfl rfl)
theorem dX2_isMet_4 : decode cX2_isMet 4 = .ok (.aload_n 1, 1) := dk_43 (dk_at dksX2_isMet_0 4 rfl rfl)
theorem dX2_isMet_5 : decode cX2_isMet 5 = .ok (.getfield 51, 3) := dk_180 0 51 (dk_at dksX2_isMet_0 5 rfl rfl)
theorem dX2_isMet_8 : decode cX2_isMet 8 = .ok (.iload_n 2, 1) := dk_28 (dk_at dksX2_isMet_0 8 rfl rfl)
theorem dX2_isMet_9 : decode cX2_isMet 9 = .ok (.iaload, 1) := dk_46 (dk_at dksX2_isMet_0 9 rfl rfl)
theorem dX2_isMet_10 : decode cX2_isMet 10 = .ok (.iaload, 1) := dk_46 (dk_at dksX2_isMet_0 10 rfl rfl)
theorem dX2_isMet_11 : decode cX2_isMet 11 = .ok (.istore_n 3, 1) := dk_62 (dk_at dksX2_isMet_0 11 rfl rfl)
theorem dX2_isMet_12 : decode cX2_isMet 12 = .ok (.iload_n 3, 1) := dk_29 (dk_at dksX2_isMet_0 12 rfl rfl)
theorem dX2_isMet_13 : decode cX2_isMet 13 = .ok (.aload_n 1, 1) := dk_43 (dk_at dksX2_isMet_0 13 rfl rfl)
theorem dX2_isMet_14 : decode cX2_isMet 14 = .ok (.getfield 57, 3) := dk_180 0 57 (dk_at dksX2_isMet_0 14 rfl rfl)
theorem dX2_isMet_17 : decode cX2_isMet 17 = .ok (.iload_n 2, 1) := dk_28 (dk_at dksX2_isMet_0 17 rfl rfl)
theorem dX2_isMet_18 : decode cX2_isMet 18 = .ok (.iaload, 1) := dk_46 (dk_at dksX2_isMet_0 18 rfl rfl)
theorem dX2_isMet_19 : decode cX2_isMet 19 = .ok (.if_icmp .gt 29, 3) := dk_163 0 29 (dk_at dksX2_isMet_0 19 rfl rfl)
theorem dX2_isMet_22 : decode cX2_isMet 22 = .ok (.aload_n 0, 1) := dk_42 (dk_at dksX2_isMet_0 22 rfl rfl)
theorem dX2_isMet_23 : decode cX2_isMet 23 = .ok (.getfield 11, 3) := dk_180 0 11 (dk_at dksX2_isMet_1 0 rfl rfl)
theorem dX2_isMet_26 : decode cX2_isMet 26 = .ok (.iload_n 2, 1) := dk_28 (dk_at dksX2_isMet_1 3 rfl rfl)
theorem dX2_isMet_27 : decode cX2_isMet 27 = .ok (.aaload, 1) := dk_50 (dk_at dksX2_isMet_1 4 rfl rfl)
theorem dX2_isMet_28 : decode cX2_isMet 28 = .ok (.aload_n 0, 1) := dk_42 (dk_at dksX2_isMet_1 5 rfl rfl)
theorem dX2_isMet_29 : decode cX2_isMet 29 = .ok (.getfield 23, 3) := dk_180 0 23 (dk_at dksX2_isMet_1 6 rfl rfl)
theorem dX2_isMet_32 : decode cX2_isMet 32 = .ok (.iload_n 2, 1) := dk_28 (dk_at dksX2_isMet_1 9 rfl rfl)
theorem dX2_isMet_33 : decode cX2_isMet 33 = .ok (.iaload, 1) := dk_46 (dk_at dksX2_isMet_1 10 rfl rfl)
theorem dX2_isMet_34 : decode cX2_isMet 34 = .ok (.iaload, 1) := dk_46 (dk_at dksX2_isMet_1 11 rfl rfl)
theorem dX2_isMet_35 : decode cX2_isMet 35 = .ok (.aload_n 1, 1) := dk_43 (dk_at dksX2_isMet_1 12 rfl rfl)
theorem dX2_isMet_36 : decode cX2_isMet 36 = .ok (.getfield 57, 3) := dk_180 0 57 (dk_at dksX2_isMet_1 13 rfl rfl)
theorem dX2_isMet_39 : decode cX2_isMet 39 = .ok (.iload_n 2, 1) := dk_28 (dk_at dksX2_isMet_1 16 rfl rfl)
theorem dX2_isMet_40 : decode cX2_isMet 40 = .ok (.iaload, 1) := dk_46 (dk_at dksX2_isMet_1 17 rfl rfl)
theorem dX2_isMet_41 : decode cX2_isMet 41 = .ok (.if_icmp .ne 7, 3) := dk_160 0 7 (dk_at dksX2_isMet_1 18 rfl rfl)
theorem dX2_isMet_44 : decode cX2_isMet 44 = .ok (.iconst 1, 1) := dk_4 (dk_at dksX2_isMet_1 21 rfl rfl)
theorem dX2_isMet_45 : decode cX2_isMet 45 = .ok (.goto 4, 3) := dk_167 0 4 (dk_at dksX2_isMet_2 0 rfl rfl)
theorem dX2_isMet_48 : decode cX2_isMet 48 = .ok (.iconst 0, 1) := dk_3 (dk_at dksX2_isMet_2 3 rfl rfl)
theorem dX2_isMet_49 : decode cX2_isMet 49 = .ok (.ireturn, 1) := dk_172 (dk_at dksX2_isMet_2 4 rfl rfl)
theorem q81 : (Jvm.Cond.initialized "NoFartherThanAThrow$Seeker") ∈ lw_all := lw_g (lw_at lw_m1 3 rfl) rfl
theorem q141 : (Jvm.Cond.instantiable "NoFartherThanAThrow$Seeker" (5 : Nat)) ∈ lw_all := lw_g (lw_at lw_m1 63 rfl) rfl
theorem q143 : (Jvm.Cond.instanceMethod ({ cls := "NoFartherThanAThrow$Seeker", name := "<init>", desc := "()V" } : Jvm.MethodName)) ∈ lw_all := lw_g (lw_at lw_m1 65 rfl) rfl
theorem q144 : (Jvm.Cond.code ({ cls := "NoFartherThanAThrow$Seeker", name := "<init>", desc := "()V" } : Jvm.MethodName) prog_15_method_1_code (1 : Nat) (Option.none : Option Jvm.ClassFile.FieldType)) ∈ lw_all := lw_g (lw_at lw_m1 66 rfl) rfl
theorem q145 : (Jvm.Cond.methodLink "NoFartherThanAThrow$Seeker" (3 : Nat) ({ cls := "java/lang/Object", name := "<init>", desc := "()V" } : Jvm.MethodName)) ∈ lw_all := lw_g (lw_at lw_m1 67 rfl) rfl
theorem q146 : (Jvm.Cond.classLink "NoFartherThanAThrow$Seeker" (9 : Nat) "[[I") ∈ lw_all := lw_g (lw_at lw_m1 68 rfl) rfl
theorem q148 : (Jvm.Cond.fieldLink "NoFartherThanAThrow$Seeker" (11 : Nat) "NoFartherThanAThrow$Seeker" "reach" "[[I") ∈ lw_all := lw_g (lw_at lw_m1 70 rfl) rfl
theorem q149 : (Jvm.Cond.fieldLink "NoFartherThanAThrow$Seeker" (16 : Nat) "NoFartherThanAThrow$Seeker" "tried" "[I") ∈ lw_all := lw_g (lw_at lw_m1 71 rfl) rfl
theorem q150 : (Jvm.Cond.fieldLink "NoFartherThanAThrow$Seeker" (20 : Nat) "NoFartherThanAThrow$Seeker" "given" "[I") ∈ lw_all := lw_g (lw_at lw_m1 72 rfl) rfl
theorem q152 : (Jvm.Cond.fieldLink "NoFartherThanAThrow$Seeker" (23 : Nat) "NoFartherThanAThrow$Seeker" "sets" "[I") ∈ lw_all := lw_g (lw_at lw_m1 74 rfl) rfl
theorem q153 : (Jvm.Cond.fieldLink "NoFartherThanAThrow$Seeker" (64 : Nat) "NoFartherThanAThrow$Seeker" "most" "I") ∈ lw_all := lw_g (lw_at lw_m1 75 rfl) rfl
theorem q155 : (Jvm.Cond.laysFinal "NoFartherThanAThrow$Seeker" "NoFartherThanAThrow$Seeker" "reach" "[[I") ∈ lw_all := lw_g (lw_at lw_m1 77 rfl) rfl
theorem q156 : (Jvm.Cond.soleField "NoFartherThanAThrow$Seeker" "reach") ∈ lw_all := lw_g (lw_at lw_m1 78 rfl) rfl
theorem q157 : (Jvm.Cond.laysFinal "NoFartherThanAThrow$Seeker" "NoFartherThanAThrow$Seeker" "tried" "[I") ∈ lw_all := lw_g (lw_at lw_m1 79 rfl) rfl
theorem q158 : (Jvm.Cond.soleField "NoFartherThanAThrow$Seeker" "tried") ∈ lw_all := lw_g (lw_at lw_m1 80 rfl) rfl
theorem q159 : (Jvm.Cond.laysFinal "NoFartherThanAThrow$Seeker" "NoFartherThanAThrow$Seeker" "given" "[I") ∈ lw_all := lw_g (lw_at lw_m1 81 rfl) rfl
theorem q160 : (Jvm.Cond.soleField "NoFartherThanAThrow$Seeker" "given") ∈ lw_all := lw_g (lw_at lw_m1 82 rfl) rfl
theorem q161 : (Jvm.Cond.laysFinal "NoFartherThanAThrow$Seeker" "NoFartherThanAThrow$Seeker" "sets" "[I") ∈ lw_all := lw_g (lw_at lw_m1 83 rfl) rfl
theorem q162 : (Jvm.Cond.soleField "NoFartherThanAThrow$Seeker" "sets") ∈ lw_all := lw_g (lw_at lw_m1 84 rfl) rfl
theorem q163 : (Jvm.Cond.lays "NoFartherThanAThrow$Seeker" "NoFartherThanAThrow$Seeker" "most" "I") ∈ lw_all := lw_g (lw_at lw_m1 85 rfl) rfl
theorem q164 : (Jvm.Cond.soleField "NoFartherThanAThrow$Seeker" "most") ∈ lw_all := lw_g (lw_at lw_m1 86 rfl) rfl
theorem q165 : (Jvm.Cond.superclass "NoFartherThanAThrow$Seeker" "java/lang/Object") ∈ lw_all := lw_g (lw_at lw_m1 87 rfl) rfl
theorem q190 : (Jvm.Cond.fieldLink "NoFartherThanAThrow$Seeker" (26 : Nat) "NoFartherThanAThrow$World" "peopleThere" "I") ∈ lw_all := lw_g (lw_at lw_m1 112 rfl) rfl
theorem q195 : (Jvm.Cond.fieldLink "NoFartherThanAThrow$Seeker" (48 : Nat) "NoFartherThanAThrow$World" "wantsThere" "I") ∈ lw_all := lw_g (lw_at lw_m1 117 rfl) rfl
theorem q205 : (Jvm.Cond.fieldLink "NoFartherThanAThrow$Seeker" (54 : Nat) "NoFartherThanAThrow$World" "step" "[I") ∈ lw_all := lw_g (lw_at lw_m1 127 rfl) rfl
theorem q217 : (Jvm.Cond.fieldLink "NoFartherThanAThrow$Seeker" (51 : Nat) "NoFartherThanAThrow$World" "wantThing" "[I") ∈ lw_all := lw_g (lw_at lw_m1 139 rfl) rfl
theorem q220 : (Jvm.Cond.fieldLink "NoFartherThanAThrow$Seeker" (57 : Nat) "NoFartherThanAThrow$World" "wantStep" "[I") ∈ lw_all := lw_g (lw_at lw_m1 142 rfl) rfl
theorem q223 : (Jvm.Cond.fieldLink "NoFartherThanAThrow$Seeker" (75 : Nat) "NoFartherThanAThrow$World" "wantWorth" "[I") ∈ lw_all := lw_g (lw_at lw_m1 145 rfl) rfl
theorem q1153 : (Jvm.Cond.instanceMethod ({ cls := "NoFartherThanAThrow$Seeker", name := "find", desc := "(LNoFartherThanAThrow$World;IIII)[I" } : Jvm.MethodName)) ∈ lw_all := lw_g (lw_at lw_m5 115 rfl) rfl
theorem q1154 : (Jvm.Cond.selects "NoFartherThanAThrow$Seeker" ({ cls := "NoFartherThanAThrow$Seeker", name := "find", desc := "(LNoFartherThanAThrow$World;IIII)[I" } : Jvm.MethodName) ({ cls := "NoFartherThanAThrow$Seeker", name := "find", desc := "(LNoFartherThanAThrow$World;IIII)[I" } : Jvm.MethodName)) ∈ lw_all := lw_g (lw_at lw_m5 116 rfl) rfl
theorem q1155 : (Jvm.Cond.code ({ cls := "NoFartherThanAThrow$Seeker", name := "find", desc := "(LNoFartherThanAThrow$World;IIII)[I" } : Jvm.MethodName) prog_15_method_2_code (9 : Nat) (Option.some (Jvm.ClassFile.FieldType.array Jvm.ClassFile.FieldType.int))) ∈ lw_all := lw_g (lw_at lw_m5 117 rfl) rfl
theorem q1156 : (Jvm.Cond.methodLink "NoFartherThanAThrow$Seeker" (32 : Nat) ({ cls := "java/lang/Math", name := "min", desc := "(II)I" } : Jvm.MethodName)) ∈ lw_all := lw_g (lw_at lw_m5 118 rfl) rfl
theorem q1157 : (Jvm.Cond.methodLink "NoFartherThanAThrow$Seeker" (38 : Nat) ({ cls := "NoFartherThanAThrow$World", name := "far", desc := "(II)I" } : Jvm.MethodName)) ∈ lw_all := lw_g (lw_at lw_m5 119 rfl) rfl
theorem q1158 : (Jvm.Cond.methodLink "NoFartherThanAThrow$Seeker" (41 : Nat) ({ cls := "NoFartherThanAThrow$World", name := "brings", desc := "(III)I" } : Jvm.MethodName)) ∈ lw_all := lw_g (lw_at lw_m5 120 rfl) rfl
theorem q1162 : (Jvm.Cond.methodLink "NoFartherThanAThrow$Seeker" (45 : Nat) ({ cls := "java/lang/Math", name := "max", desc := "(II)I" } : Jvm.MethodName)) ∈ lw_all := lw_g (lw_at lw_m5 124 rfl) rfl
theorem q1207 : (Jvm.Cond.instanceMethod ({ cls := "NoFartherThanAThrow$Seeker", name := "share", desc := "(LNoFartherThanAThrow$World;)V" } : Jvm.MethodName)) ∈ lw_all := lw_g (lw_at lw_m5 169 rfl) rfl
theorem q1208 : (Jvm.Cond.selects "NoFartherThanAThrow$Seeker" ({ cls := "NoFartherThanAThrow$Seeker", name := "share", desc := "(LNoFartherThanAThrow$World;)V" } : Jvm.MethodName) ({ cls := "NoFartherThanAThrow$Seeker", name := "share", desc := "(LNoFartherThanAThrow$World;)V" } : Jvm.MethodName)) ∈ lw_all := lw_g (lw_at lw_m5 170 rfl) rfl
theorem q1209 : (Jvm.Cond.code ({ cls := "NoFartherThanAThrow$Seeker", name := "share", desc := "(LNoFartherThanAThrow$World;)V" } : Jvm.MethodName) prog_15_method_3_code (3 : Nat) (Option.none : Option Jvm.ClassFile.FieldType)) ∈ lw_all := lw_g (lw_at lw_m5 171 rfl) rfl
theorem q1210 : (Jvm.Cond.methodLink "NoFartherThanAThrow$Seeker" (60 : Nat) ({ cls := "NoFartherThanAThrow$Seeker", name := "find", desc := "(LNoFartherThanAThrow$World;IIII)[I" } : Jvm.MethodName)) ∈ lw_all := lw_g (lw_at lw_m5 172 rfl) rfl
theorem q1211 : (Jvm.Cond.methodLink "NoFartherThanAThrow$Seeker" (67 : Nat) ({ cls := "NoFartherThanAThrow$Seeker", name := "gives", desc := "(LNoFartherThanAThrow$World;I)V" } : Jvm.MethodName)) ∈ lw_all := lw_g (lw_at lw_m5 173 rfl) rfl
theorem q1212 : (Jvm.Cond.privateMethod ({ cls := "NoFartherThanAThrow$Seeker", name := "gives", desc := "(LNoFartherThanAThrow$World;I)V" } : Jvm.MethodName)) ∈ lw_tbl := lw_at lw_m5 174 rfl
theorem q1213 : (Jvm.Cond.instanceMethod ({ cls := "NoFartherThanAThrow$Seeker", name := "gives", desc := "(LNoFartherThanAThrow$World;I)V" } : Jvm.MethodName)) ∈ lw_all := lw_g (lw_at lw_m5 175 rfl) rfl
theorem q1214 : (Jvm.Cond.code ({ cls := "NoFartherThanAThrow$Seeker", name := "gives", desc := "(LNoFartherThanAThrow$World;I)V" } : Jvm.MethodName) prog_15_method_5_code (5 : Nat) (Option.none : Option Jvm.ClassFile.FieldType)) ∈ lw_all := lw_g (lw_at lw_m5 176 rfl) rfl
theorem q1215 : (Jvm.Cond.methodLink "NoFartherThanAThrow$Seeker" (71 : Nat) ({ cls := "NoFartherThanAThrow$Seeker", name := "isMet", desc := "(LNoFartherThanAThrow$World;I)Z" } : Jvm.MethodName)) ∈ lw_all := lw_g (lw_at lw_m5 177 rfl) rfl
theorem q1216 : (Jvm.Cond.privateMethod ({ cls := "NoFartherThanAThrow$Seeker", name := "isMet", desc := "(LNoFartherThanAThrow$World;I)Z" } : Jvm.MethodName)) ∈ lw_tbl := lw_at lw_m5 178 rfl
theorem q1217 : (Jvm.Cond.instanceMethod ({ cls := "NoFartherThanAThrow$Seeker", name := "isMet", desc := "(LNoFartherThanAThrow$World;I)Z" } : Jvm.MethodName)) ∈ lw_all := lw_g (lw_at lw_m5 179 rfl) rfl
theorem q1218 : (Jvm.Cond.code ({ cls := "NoFartherThanAThrow$Seeker", name := "isMet", desc := "(LNoFartherThanAThrow$World;I)Z" } : Jvm.MethodName) prog_15_method_4_code (4 : Nat) (Option.some Jvm.ClassFile.FieldType.boolean)) ∈ lw_all := lw_g (lw_at lw_m5 180 rfl) rfl
theorem q1219 : (Jvm.Cond.methodLink "NoFartherThanAThrow$Seeker" (78 : Nat) ({ cls := "java/lang/System", name := "arraycopy", desc := "(Ljava/lang/Object;ILjava/lang/Object;II)V" } : Jvm.MethodName)) ∈ lw_all := lw_g (lw_at lw_m5 181 rfl) rfl
theorem in_X2 : ∀ w ∈ wsX20, w ∈ lw_all := lw_in wsX20 [155, 157, 159, 161, 163] (by decide +kernel) (by decide +kernel)
/-! NoFartherThanAThrow$World -/
set_option maxRecDepth 100000
def RX3 : String := "NoFartherThanAThrow$World"
def TX3 : u_T := fun k => match k with
  | 0 => ("NoFartherThanAThrow$World", "longWay", "I", false)
  | 1 => ("NoFartherThanAThrow$World", "from", "I", false)
  | 2 => ("NoFartherThanAThrow$World", "to", "I", false)
  | 3 => ("NoFartherThanAThrow$World", "wind", "I", false)
  | 4 => ("NoFartherThanAThrow$World", "thingsThere", "I", false)
  | 5 => ("NoFartherThanAThrow$World", "peopleThere", "I", false)
  | 6 => ("NoFartherThanAThrow$World", "wantsThere", "I", false)
  | 7 => ("NoFartherThanAThrow$World", "gone", "I", false)
  | 8 => ("NoFartherThanAThrow$World", "seed", "I", false)
  | 9 => ("NoFartherThanAThrow$World", "things", "[LNoFartherThanAThrow$Thing;", true)
  | 10 => ("NoFartherThanAThrow$World", "step", "[I", true)
  | 11 => ("NoFartherThanAThrow$World", "last", "[I", true)
  | 12 => ("NoFartherThanAThrow$World", "broken", "[Z", true)
  | 13 => ("NoFartherThanAThrow$World", "strength", "[I", true)
  | 14 => ("NoFartherThanAThrow$World", "tired", "[I", true)
  | 15 => ("NoFartherThanAThrow$World", "wantThing", "[I", true)
  | 16 => ("NoFartherThanAThrow$World", "wantStep", "[I", true)
  | _ => ("NoFartherThanAThrow$World", "wantWorth", "[I", true)
def tyX3 : Nat → FieldType := fun k => match k with
  | 0 => .int
  | 1 => .int
  | 2 => .int
  | 3 => .int
  | 4 => .int
  | 5 => .int
  | 6 => .int
  | 7 => .int
  | 8 => .int
  | 9 => .array (.object "NoFartherThanAThrow$Thing")
  | 10 => .array .int
  | 11 => .array .int
  | 12 => .array .boolean
  | 13 => .array .int
  | 14 => .array .int
  | 15 => .array .int
  | 16 => .array .int
  | _ => .array .int
abbrev wsX30 : List Cond := u_ws RX3 TX3 18
set_option maxRecDepth 100000 in
theorem nmX3 : ∀ a, a < 18 → ∀ b, b < 18 → a ≠ b → (TX3 a).2.1 ≠ (TX3 b).2.1 := by decide +kernel
set_option maxRecDepth 100000 in
theorem tyX3_ok : ∀ k, k < 18 → parseFieldDescriptor (TX3 k).2.2.1 = some (tyX3 k) := by decide +kernel
abbrev cX3_init : ByteArray := prog_20_method_1_code
def yX3_init : MethodName := ⟨RX3, "<init>", "()V"⟩
def dkwX3_init_3 : List UInt8 := [7, 188, 10, 181, 0, 44, 42, 7, 188, 10, 181, 0, 47, 177]
abbrev dktX3_init_3 : List UInt8 := dkwX3_init_3 ++ []
def dkwX3_init_2 : List UInt8 := [42, 16, 8, 188, 10, 181, 0, 35, 42, 16, 8, 188, 10, 181, 0, 38, 42, 7, 188, 10, 181, 0, 41, 42]
abbrev dktX3_init_2 : List UInt8 := dkwX3_init_2 ++ dktX3_init_3
def dkwX3_init_1 : List UInt8 := [42, 16, 8, 188, 10, 181, 0, 24, 42, 16, 8, 188, 10, 181, 0, 28, 42, 16, 8, 188, 4, 181, 0, 31]
abbrev dktX3_init_1 : List UInt8 := dkwX3_init_1 ++ dktX3_init_2
def dkwX3_init_0 : List UInt8 := [42, 183, 0, 3, 42, 16, 60, 181, 0, 9, 42, 4, 181, 0, 15, 42, 16, 8, 189, 0, 18, 181, 0, 20]
abbrev dktX3_init_0 : List UInt8 := dkwX3_init_0 ++ dktX3_init_1
theorem dksX3_init_0 : cX3_init.data.toList.drop 0 = dktX3_init_0 := by decide +kernel
theorem dksX3_init_1 : cX3_init.data.toList.drop 24 = dktX3_init_1 := dk_seg dksX3_init_0 24 rfl rfl
theorem dksX3_init_2 : cX3_init.data.toList.drop 48 = dktX3_init_2 := dk_seg dksX3_init_1 24 rfl rfl
theorem dksX3_init_3 : cX3_init.data.toList.drop 72 = dktX3_init_3 := dk_seg dksX3_init_2 24 rfl rfl
theorem dX3_init_0 : decode cX3_init 0 = .ok (.aload_n 0, 1) := dk_42 (dk_at dksX3_init_0 0 rfl rfl)
theorem dX3_init_1 : decode cX3_init 1 = .ok (.invokespecial 3, 3) := dk_183 0 3 (dk_at dksX3_init_0 1 rfl rfl)
theorem dX3_init_4 : decode cX3_init 4 = .ok (.aload_n 0, 1) := dk_42 (dk_at dksX3_init_0 4 rfl rfl)
theorem dX3_init_5 : decode cX3_init 5 = .ok (.bipush 60, 2) := dk_16 60 (dk_at dksX3_init_0 5 rfl rfl)
theorem dX3_init_7 : decode cX3_init 7 = .ok (.putfield 9, 3) := dk_181 0 9 (dk_at dksX3_init_0 7 rfl rfl)
theorem dX3_init_10 : decode cX3_init 10 = .ok (.aload_n 0, 1) := dk_42 (dk_at dksX3_init_0 10 rfl rfl)
theorem dX3_init_11 : decode cX3_init 11 = .ok (.iconst 1, 1) := dk_4 (dk_at dksX3_init_0 11 rfl rfl)
theorem dX3_init_12 : decode cX3_init 12 = .ok (.putfield 15, 3) := dk_181 0 15 (dk_at dksX3_init_0 12 rfl rfl)
theorem dX3_init_15 : decode cX3_init 15 = .ok (.aload_n 0, 1) := dk_42 (dk_at dksX3_init_0 15 rfl rfl)
theorem dX3_init_16 : decode cX3_init 16 = .ok (.bipush 8, 2) := dk_16 8 (dk_at dksX3_init_0 16 rfl rfl)
theorem dX3_init_18 : decode cX3_init 18 = .ok (.anewarray 18, 3) := dk_189 0 18 (dk_at dksX3_init_0 18 rfl rfl)
theorem dX3_init_21 : decode cX3_init 21 = .ok (.putfield 20, 3) := dk_181 0 20 (dk_at dksX3_init_0 21 rfl rfl)
theorem dX3_init_24 : decode cX3_init 24 = .ok (.aload_n 0, 1) := dk_42 (dk_at dksX3_init_1 0 rfl rfl)
theorem dX3_init_25 : decode cX3_init 25 = .ok (.bipush 8, 2) := dk_16 8 (dk_at dksX3_init_1 1 rfl rfl)
theorem dX3_init_27 : decode cX3_init 27 = .ok (.newarray .int, 2) := dk_188_10 (dk_at dksX3_init_1 3 rfl rfl)
theorem dX3_init_29 : decode cX3_init 29 = .ok (.putfield 24, 3) := dk_181 0 24 (dk_at dksX3_init_1 5 rfl rfl)
theorem dX3_init_32 : decode cX3_init 32 = .ok (.aload_n 0, 1) := dk_42 (dk_at dksX3_init_1 8 rfl rfl)
theorem dX3_init_33 : decode cX3_init 33 = .ok (.bipush 8, 2) := dk_16 8 (dk_at dksX3_init_1 9 rfl rfl)
theorem dX3_init_35 : decode cX3_init 35 = .ok (.newarray .int, 2) := dk_188_10 (dk_at dksX3_init_1 11 rfl rfl)
theorem dX3_init_37 : decode cX3_init 37 = .ok (.putfield 28, 3) := dk_181 0 28 (dk_at dksX3_init_1 13 rfl rfl)
theorem dX3_init_40 : decode cX3_init 40 = .ok (.aload_n 0, 1) := dk_42 (dk_at dksX3_init_1 16 rfl rfl)
theorem dX3_init_41 : decode cX3_init 41 = .ok (.bipush 8, 2) := dk_16 8 (dk_at dksX3_init_1 17 rfl rfl)
theorem dX3_init_43 : decode cX3_init 43 = .ok (.newarray .boolean, 2) := dk_188_4 (dk_at dksX3_init_1 19 rfl rfl)
theorem dX3_init_45 : decode cX3_init 45 = .ok (.putfield 31, 3) := dk_181 0 31 (dk_at dksX3_init_1 21 rfl rfl)
theorem dX3_init_48 : decode cX3_init 48 = .ok (.aload_n 0, 1) := dk_42 (dk_at dksX3_init_2 0 rfl rfl)
theorem dX3_init_49 : decode cX3_init 49 = .ok (.bipush 8, 2) := dk_16 8 (dk_at dksX3_init_2 1 rfl rfl)
theorem dX3_init_51 : decode cX3_init 51 = .ok (.newarray .int, 2) := dk_188_10 (dk_at dksX3_init_2 3 rfl rfl)
theorem dX3_init_53 : decode cX3_init 53 = .ok (.putfield 35, 3) := dk_181 0 35 (dk_at dksX3_init_2 5 rfl rfl)
theorem dX3_init_56 : decode cX3_init 56 = .ok (.aload_n 0, 1) := dk_42 (dk_at dksX3_init_2 8 rfl rfl)
theorem dX3_init_57 : decode cX3_init 57 = .ok (.bipush 8, 2) := dk_16 8 (dk_at dksX3_init_2 9 rfl rfl)
theorem dX3_init_59 : decode cX3_init 59 = .ok (.newarray .int, 2) := dk_188_10 (dk_at dksX3_init_2 11 rfl rfl)
theorem dX3_init_61 : decode cX3_init 61 = .ok (.putfield 38, 3) := dk_181 0 38 (dk_at dksX3_init_2 13 rfl rfl)
theorem dX3_init_64 : decode cX3_init 64 = .ok (.aload_n 0, 1) := dk_42 (dk_at dksX3_init_2 16 rfl rfl)
theorem dX3_init_65 : decode cX3_init 65 = .ok (.iconst 4, 1) := dk_7 (dk_at dksX3_init_2 17 rfl rfl)
theorem dX3_init_66 : decode cX3_init 66 = .ok (.newarray .int, 2) := dk_188_10 (dk_at dksX3_init_2 18 rfl rfl)
theorem dX3_init_68 : decode cX3_init 68 = .ok (.putfield 41, 3) := dk_181 0 41 (dk_at dksX3_init_2 20 rfl rfl)
theorem dX3_init_71 : decode cX3_init 71 = .ok (.aload_n 0, 1) := dk_42 (dk_at dksX3_init_2 23 rfl rfl)
theorem dX3_init_72 : decode cX3_init 72 = .ok (.iconst 4, 1) := dk_7 (dk_at dksX3_init_3 0 rfl rfl)
theorem dX3_init_73 : decode cX3_init 73 = .ok (.newarray .int, 2) := dk_188_10 (dk_at dksX3_init_3 1 rfl rfl)
theorem dX3_init_75 : decode cX3_init 75 = .ok (.putfield 44, 3) := dk_181 0 44 (dk_at dksX3_init_3 3 rfl rfl)
theorem dX3_init_78 : decode cX3_init 78 = .ok (.aload_n 0, 1) := dk_42 (dk_at dksX3_init_3 6 rfl rfl)
theorem dX3_init_79 : decode cX3_init 79 = .ok (.iconst 4, 1) := dk_7 (dk_at dksX3_init_3 7 rfl rfl)
theorem dX3_init_80 : decode cX3_init 80 = .ok (.newarray .int, 2) := dk_188_10 (dk_at dksX3_init_3 8 rfl rfl)
theorem dX3_init_82 : decode cX3_init 82 = .ok (.putfield 47, 3) := dk_181 0 47 (dk_at dksX3_init_3 10 rfl rfl)
theorem dX3_init_85 : decode cX3_init 85 = .ok (.return_, 1) := dk_177 (dk_at dksX3_init_3 13 rfl rfl)
abbrev cX3_isStep : ByteArray := prog_20_method_4_code
def yX3_isStep : MethodName := ⟨RX3, "isStep", "(I)Z"⟩
def dkwX3_isStep_1 : List UInt8 := [167, 0, 4, 3, 172]
abbrev dktX3_isStep_1 : List UInt8 := dkwX3_isStep_1 ++ []
def dkwX3_isStep_0 : List UInt8 := [27, 133, 9, 42, 180, 0, 9, 133, 184, 0, 78, 153, 0, 15, 42, 27, 182, 0, 82, 154, 0, 7, 4]
abbrev dktX3_isStep_0 : List UInt8 := dkwX3_isStep_0 ++ dktX3_isStep_1
theorem dksX3_isStep_0 : cX3_isStep.data.toList.drop 0 = dktX3_isStep_0 := by decide +kernel
theorem dksX3_isStep_1 : cX3_isStep.data.toList.drop 23 = dktX3_isStep_1 := dk_seg dksX3_isStep_0 23 rfl rfl
theorem dX3_isStep_0 : decode cX3_isStep 0 = .ok (.iload_n 1, 1) := dk_27 (dk_at dksX3_isStep_0 0 rfl rfl)
theorem dX3_isStep_1 : decode cX3_isStep 1 = .ok (.i2l, 1) := dk_133 (dk_at dksX3_isStep_0 1 rfl rfl)
theorem dX3_isStep_2 : decode cX3_isStep 2 = .ok (.lconst 0, 1) := dk_9 (dk_at dksX3_isStep_0 2 rfl rfl)
theorem dX3_isStep_3 : decode cX3_isStep 3 = .ok (.aload_n 0, 1) := dk_42 (dk_at dksX3_isStep_0 3 rfl rfl)
theorem dX3_isStep_4 : decode cX3_isStep 4 = .ok (.getfield 9, 3) := dk_180 0 9 (dk_at dksX3_isStep_0 4 rfl rfl)
theorem dX3_isStep_7 : decode cX3_isStep 7 = .ok (.i2l, 1) := dk_133 (dk_at dksX3_isStep_0 7 rfl rfl)
theorem dX3_isStep_8 : decode cX3_isStep 8 = .ok (.invokestatic 78, 3) := dk_184 0 78 (dk_at dksX3_isStep_0 8 rfl rfl)
theorem dX3_isStep_11 : decode cX3_isStep 11 = .ok (.ifCond .eq 15, 3) := dk_153 0 15 (dk_at dksX3_isStep_0 11 rfl rfl)
theorem dX3_isStep_14 : decode cX3_isStep 14 = .ok (.aload_n 0, 1) := dk_42 (dk_at dksX3_isStep_0 14 rfl rfl)
theorem dX3_isStep_15 : decode cX3_isStep 15 = .ok (.iload_n 1, 1) := dk_27 (dk_at dksX3_isStep_0 15 rfl rfl)
theorem dX3_isStep_16 : decode cX3_isStep 16 = .ok (.invokevirtual 82, 3) := dk_182 0 82 (dk_at dksX3_isStep_0 16 rfl rfl)
theorem dX3_isStep_19 : decode cX3_isStep 19 = .ok (.ifCond .ne 7, 3) := dk_154 0 7 (dk_at dksX3_isStep_0 19 rfl rfl)
theorem dX3_isStep_22 : decode cX3_isStep 22 = .ok (.iconst 1, 1) := dk_4 (dk_at dksX3_isStep_0 22 rfl rfl)
theorem dX3_isStep_23 : decode cX3_isStep 23 = .ok (.goto 4, 3) := dk_167 0 4 (dk_at dksX3_isStep_1 0 rfl rfl)
theorem dX3_isStep_26 : decode cX3_isStep 26 = .ok (.iconst 0, 1) := dk_3 (dk_at dksX3_isStep_1 3 rfl rfl)
theorem dX3_isStep_27 : decode cX3_isStep 27 = .ok (.ireturn, 1) := dk_172 (dk_at dksX3_isStep_1 4 rfl rfl)
abbrev cX3_isWet : ByteArray := prog_20_method_3_code
def yX3_isWet : MethodName := ⟨RX3, "isWet", "(I)Z"⟩
def dkwX3_isWet_0 : List UInt8 := [27, 42, 180, 0, 51, 164, 0, 15, 27, 42, 180, 0, 54, 162, 0, 7, 4, 167, 0, 4, 3, 172]
abbrev dktX3_isWet_0 : List UInt8 := dkwX3_isWet_0 ++ []
theorem dksX3_isWet_0 : cX3_isWet.data.toList.drop 0 = dktX3_isWet_0 := by decide +kernel
theorem dX3_isWet_0 : decode cX3_isWet 0 = .ok (.iload_n 1, 1) := dk_27 (dk_at dksX3_isWet_0 0 rfl rfl)
theorem dX3_isWet_1 : decode cX3_isWet 1 = .ok (.aload_n 0, 1) := dk_42 (dk_at dksX3_isWet_0 1 rfl rfl)
theorem dX3_isWet_2 : decode cX3_isWet 2 = .ok (.getfield 51, 3) := dk_180 0 51 (dk_at dksX3_isWet_0 2 rfl rfl)
theorem dX3_isWet_5 : decode cX3_isWet 5 = .ok (.if_icmp .le 15, 3) := dk_164 0 15 (dk_at dksX3_isWet_0 5 rfl rfl)
theorem dX3_isWet_8 : decode cX3_isWet 8 = .ok (.iload_n 1, 1) := dk_27 (dk_at dksX3_isWet_0 8 rfl rfl)
theorem dX3_isWet_9 : decode cX3_isWet 9 = .ok (.aload_n 0, 1) := dk_42 (dk_at dksX3_isWet_0 9 rfl rfl)
theorem dX3_isWet_10 : decode cX3_isWet 10 = .ok (.getfield 54, 3) := dk_180 0 54 (dk_at dksX3_isWet_0 10 rfl rfl)
theorem dX3_isWet_13 : decode cX3_isWet 13 = .ok (.if_icmp .ge 7, 3) := dk_162 0 7 (dk_at dksX3_isWet_0 13 rfl rfl)
theorem dX3_isWet_16 : decode cX3_isWet 16 = .ok (.iconst 1, 1) := dk_4 (dk_at dksX3_isWet_0 16 rfl rfl)
theorem dX3_isWet_17 : decode cX3_isWet 17 = .ok (.goto 4, 3) := dk_167 0 4 (dk_at dksX3_isWet_0 17 rfl rfl)
theorem dX3_isWet_20 : decode cX3_isWet 20 = .ok (.iconst 0, 1) := dk_3 (dk_at dksX3_isWet_0 20 rfl rfl)
theorem dX3_isWet_21 : decode cX3_isWet 21 = .ok (.ireturn, 1) := dk_172 (dk_at dksX3_isWet_0 21 rfl rfl)
abbrev cX3_addThing : ByteArray := prog_20_method_8_code
def yX3_addThing : MethodName := ⟨RX3, "addThing", "(IIIII)V"⟩
def dkwX3_addThing_1 : List UInt8 := [181, 0, 60, 177]
abbrev dktX3_addThing_1 : List UInt8 := dkwX3_addThing_1 ++ []
def dkwX3_addThing_0 : List UInt8 := [42, 42, 180, 0, 60, 27, 28, 29, 21, 4, 21, 5, 182, 0, 96, 42, 89, 180, 0, 60, 4, 96]
abbrev dktX3_addThing_0 : List UInt8 := dkwX3_addThing_0 ++ dktX3_addThing_1
theorem dksX3_addThing_0 : cX3_addThing.data.toList.drop 0 = dktX3_addThing_0 := by decide +kernel
theorem dksX3_addThing_1 : cX3_addThing.data.toList.drop 22 = dktX3_addThing_1 := dk_seg dksX3_addThing_0 22 rfl rfl
theorem dX3_addThing_0 : decode cX3_addThing 0 = .ok (.aload_n 0, 1) := dk_42 (dk_at dksX3_addThing_0 0 rfl rfl)
theorem dX3_addThing_1 : decode cX3_addThing 1 = .ok (.aload_n 0, 1) := dk_42 (dk_at dksX3_addThing_0 1 rfl rfl)
theorem dX3_addThing_2 : decode cX3_addThing 2 = .ok (.getfield 60, 3) := dk_180 0 60 (dk_at dksX3_addThing_0 2 rfl rfl)
theorem dX3_addThing_5 : decode cX3_addThing 5 = .ok (.iload_n 1, 1) := dk_27 (dk_at dksX3_addThing_0 5 rfl rfl)
theorem dX3_addThing_6 : decode cX3_addThing 6 = .ok (.iload_n 2, 1) := dk_28 (dk_at dksX3_addThing_0 6 rfl rfl)
theorem dX3_addThing_7 : decode cX3_addThing 7 = .ok (.iload_n 3, 1) := dk_29 (dk_at dksX3_addThing_0 7 rfl rfl)
theorem dX3_addThing_8 : decode cX3_addThing 8 = .ok (.iload 4, 2) := dk_21 4 (dk_at dksX3_addThing_0 8 rfl rfl)
theorem dX3_addThing_10 : decode cX3_addThing 10 = .ok (.iload 5, 2) := dk_21 5 (dk_at dksX3_addThing_0 10 rfl rfl)
theorem dX3_addThing_12 : decode cX3_addThing 12 = .ok (.invokevirtual 96, 3) := dk_182 0 96 (dk_at dksX3_addThing_0 12 rfl rfl)
theorem dX3_addThing_15 : decode cX3_addThing 15 = .ok (.aload_n 0, 1) := dk_42 (dk_at dksX3_addThing_0 15 rfl rfl)
theorem dX3_addThing_16 : decode cX3_addThing 16 = .ok (.dup, 1) := dk_89 (dk_at dksX3_addThing_0 16 rfl rfl)
theorem dX3_addThing_17 : decode cX3_addThing 17 = .ok (.getfield 60, 3) := dk_180 0 60 (dk_at dksX3_addThing_0 17 rfl rfl)
theorem dX3_addThing_20 : decode cX3_addThing 20 = .ok (.iconst 1, 1) := dk_4 (dk_at dksX3_addThing_0 20 rfl rfl)
theorem dX3_addThing_21 : decode cX3_addThing 21 = .ok (.iadd, 1) := dk_96 (dk_at dksX3_addThing_0 21 rfl rfl)
theorem dX3_addThing_22 : decode cX3_addThing 22 = .ok (.putfield 60, 3) := dk_181 0 60 (dk_at dksX3_addThing_1 0 rfl rfl)
theorem dX3_addThing_25 : decode cX3_addThing 25 = .ok (.return_, 1) := dk_177 (dk_at dksX3_addThing_1 3 rfl rfl)
abbrev cX3_putThing : ByteArray := prog_20_method_7_code
def yX3_putThing : MethodName := ⟨RX3, "putThing", "(IIIIII)V"⟩
def dkwX3_putThing_1 : List UInt8 := [180, 0, 28, 27, 21, 6, 79, 42, 180, 0, 31, 27, 3, 84, 177]
abbrev dktX3_putThing_1 : List UInt8 := dkwX3_putThing_1 ++ []
def dkwX3_putThing_0 : List UInt8 := [42, 180, 0, 20, 27, 28, 27, 29, 21, 4, 184, 0, 92, 83, 42, 180, 0, 24, 27, 21, 5, 79, 42]
abbrev dktX3_putThing_0 : List UInt8 := dkwX3_putThing_0 ++ dktX3_putThing_1
theorem dksX3_putThing_0 : cX3_putThing.data.toList.drop 0 = dktX3_putThing_0 := by decide +kernel
theorem dksX3_putThing_1 : cX3_putThing.data.toList.drop 23 = dktX3_putThing_1 := dk_seg dksX3_putThing_0 23 rfl rfl
theorem dX3_putThing_0 : decode cX3_putThing 0 = .ok (.aload_n 0, 1) := dk_42 (dk_at dksX3_putThing_0 0 rfl rfl)
theorem dX3_putThing_1 : decode cX3_putThing 1 = .ok (.getfield 20, 3) := dk_180 0 20 (dk_at dksX3_putThing_0 1 rfl rfl)
theorem dX3_putThing_4 : decode cX3_putThing 4 = .ok (.iload_n 1, 1) := dk_27 (dk_at dksX3_putThing_0 4 rfl rfl)
theorem dX3_putThing_5 : decode cX3_putThing 5 = .ok (.iload_n 2, 1) := dk_28 (dk_at dksX3_putThing_0 5 rfl rfl)
theorem dX3_putThing_6 : decode cX3_putThing 6 = .ok (.iload_n 1, 1) := dk_27 (dk_at dksX3_putThing_0 6 rfl rfl)
theorem dX3_putThing_7 : decode cX3_putThing 7 = .ok (.iload_n 3, 1) := dk_29 (dk_at dksX3_putThing_0 7 rfl rfl)
theorem dX3_putThing_8 : decode cX3_putThing 8 = .ok (.iload 4, 2) := dk_21 4 (dk_at dksX3_putThing_0 8 rfl rfl)
theorem dX3_putThing_10 : decode cX3_putThing 10 = .ok (.invokestatic 92, 3) := dk_184 0 92 (dk_at dksX3_putThing_0 10 rfl rfl)
theorem dX3_putThing_13 : decode cX3_putThing 13 = .ok (.aastore, 1) := dk_83 (dk_at dksX3_putThing_0 13 rfl rfl)
theorem dX3_putThing_14 : decode cX3_putThing 14 = .ok (.aload_n 0, 1) := dk_42 (dk_at dksX3_putThing_0 14 rfl rfl)
theorem dX3_putThing_15 : decode cX3_putThing 15 = .ok (.getfield 24, 3) := dk_180 0 24 (dk_at dksX3_putThing_0 15 rfl rfl)
theorem dX3_putThing_18 : decode cX3_putThing 18 = .ok (.iload_n 1, 1) := dk_27 (dk_at dksX3_putThing_0 18 rfl rfl)
theorem dX3_putThing_19 : decode cX3_putThing 19 = .ok (.iload 5, 2) := dk_21 5 (dk_at dksX3_putThing_0 19 rfl rfl)
theorem dX3_putThing_21 : decode cX3_putThing 21 = .ok (.iastore, 1) := dk_79 (dk_at dksX3_putThing_0 21 rfl rfl)
theorem dX3_putThing_22 : decode cX3_putThing 22 = .ok (.aload_n 0, 1) := dk_42 (dk_at dksX3_putThing_0 22 rfl rfl)
theorem dX3_putThing_23 : decode cX3_putThing 23 = .ok (.getfield 28, 3) := dk_180 0 28 (dk_at dksX3_putThing_1 0 rfl rfl)
theorem dX3_putThing_26 : decode cX3_putThing 26 = .ok (.iload_n 1, 1) := dk_27 (dk_at dksX3_putThing_1 3 rfl rfl)
theorem dX3_putThing_27 : decode cX3_putThing 27 = .ok (.iload 6, 2) := dk_21 6 (dk_at dksX3_putThing_1 4 rfl rfl)
theorem dX3_putThing_29 : decode cX3_putThing 29 = .ok (.iastore, 1) := dk_79 (dk_at dksX3_putThing_1 6 rfl rfl)
theorem dX3_putThing_30 : decode cX3_putThing 30 = .ok (.aload_n 0, 1) := dk_42 (dk_at dksX3_putThing_1 7 rfl rfl)
theorem dX3_putThing_31 : decode cX3_putThing 31 = .ok (.getfield 31, 3) := dk_180 0 31 (dk_at dksX3_putThing_1 8 rfl rfl)
theorem dX3_putThing_34 : decode cX3_putThing 34 = .ok (.iload_n 1, 1) := dk_27 (dk_at dksX3_putThing_1 11 rfl rfl)
theorem dX3_putThing_35 : decode cX3_putThing 35 = .ok (.iconst 0, 1) := dk_3 (dk_at dksX3_putThing_1 12 rfl rfl)
theorem dX3_putThing_36 : decode cX3_putThing 36 = .ok (.bastore, 1) := dk_84 (dk_at dksX3_putThing_1 13 rfl rfl)
theorem dX3_putThing_37 : decode cX3_putThing 37 = .ok (.return_, 1) := dk_177 (dk_at dksX3_putThing_1 14 rfl rfl)
abbrev cX3_addMan : ByteArray := prog_20_method_9_code
def yX3_addMan : MethodName := ⟨RX3, "addMan", "(I)V"⟩
def dkwX3_addMan_1 : List UInt8 := [181, 0, 63, 3, 79, 177]
abbrev dktX3_addMan_1 : List UInt8 := dkwX3_addMan_1 ++ []
def dkwX3_addMan_0 : List UInt8 := [42, 180, 0, 35, 42, 180, 0, 63, 27, 79, 42, 180, 0, 38, 42, 89, 180, 0, 63, 90, 4, 96]
abbrev dktX3_addMan_0 : List UInt8 := dkwX3_addMan_0 ++ dktX3_addMan_1
theorem dksX3_addMan_0 : cX3_addMan.data.toList.drop 0 = dktX3_addMan_0 := by decide +kernel
theorem dksX3_addMan_1 : cX3_addMan.data.toList.drop 22 = dktX3_addMan_1 := dk_seg dksX3_addMan_0 22 rfl rfl
theorem dX3_addMan_0 : decode cX3_addMan 0 = .ok (.aload_n 0, 1) := dk_42 (dk_at dksX3_addMan_0 0 rfl rfl)
theorem dX3_addMan_1 : decode cX3_addMan 1 = .ok (.getfield 35, 3) := dk_180 0 35 (dk_at dksX3_addMan_0 1 rfl rfl)
theorem dX3_addMan_4 : decode cX3_addMan 4 = .ok (.aload_n 0, 1) := dk_42 (dk_at dksX3_addMan_0 4 rfl rfl)
theorem dX3_addMan_5 : decode cX3_addMan 5 = .ok (.getfield 63, 3) := dk_180 0 63 (dk_at dksX3_addMan_0 5 rfl rfl)
theorem dX3_addMan_8 : decode cX3_addMan 8 = .ok (.iload_n 1, 1) := dk_27 (dk_at dksX3_addMan_0 8 rfl rfl)
theorem dX3_addMan_9 : decode cX3_addMan 9 = .ok (.iastore, 1) := dk_79 (dk_at dksX3_addMan_0 9 rfl rfl)
theorem dX3_addMan_10 : decode cX3_addMan 10 = .ok (.aload_n 0, 1) := dk_42 (dk_at dksX3_addMan_0 10 rfl rfl)
theorem dX3_addMan_11 : decode cX3_addMan 11 = .ok (.getfield 38, 3) := dk_180 0 38 (dk_at dksX3_addMan_0 11 rfl rfl)
theorem dX3_addMan_14 : decode cX3_addMan 14 = .ok (.aload_n 0, 1) := dk_42 (dk_at dksX3_addMan_0 14 rfl rfl)
theorem dX3_addMan_15 : decode cX3_addMan 15 = .ok (.dup, 1) := dk_89 (dk_at dksX3_addMan_0 15 rfl rfl)
theorem dX3_addMan_16 : decode cX3_addMan 16 = .ok (.getfield 63, 3) := dk_180 0 63 (dk_at dksX3_addMan_0 16 rfl rfl)
theorem dX3_addMan_19 : decode cX3_addMan 19 = .ok (.dup_x1, 1) := dk_90 (dk_at dksX3_addMan_0 19 rfl rfl)
theorem dX3_addMan_20 : decode cX3_addMan 20 = .ok (.iconst 1, 1) := dk_4 (dk_at dksX3_addMan_0 20 rfl rfl)
theorem dX3_addMan_21 : decode cX3_addMan 21 = .ok (.iadd, 1) := dk_96 (dk_at dksX3_addMan_0 21 rfl rfl)
theorem dX3_addMan_22 : decode cX3_addMan 22 = .ok (.putfield 63, 3) := dk_181 0 63 (dk_at dksX3_addMan_1 0 rfl rfl)
theorem dX3_addMan_25 : decode cX3_addMan 25 = .ok (.iconst 0, 1) := dk_3 (dk_at dksX3_addMan_1 3 rfl rfl)
theorem dX3_addMan_26 : decode cX3_addMan 26 = .ok (.iastore, 1) := dk_79 (dk_at dksX3_addMan_1 4 rfl rfl)
theorem dX3_addMan_27 : decode cX3_addMan 27 = .ok (.return_, 1) := dk_177 (dk_at dksX3_addMan_1 5 rfl rfl)
abbrev cX3_addWant : ByteArray := prog_20_method_10_code
def yX3_addWant : MethodName := ⟨RX3, "addWant", "(III)V"⟩
def dkwX3_addWant_1 : List UInt8 := [42, 89, 180, 0, 66, 90, 4, 96, 181, 0, 66, 29, 79, 177]
abbrev dktX3_addWant_1 : List UInt8 := dkwX3_addWant_1 ++ []
def dkwX3_addWant_0 : List UInt8 := [42, 180, 0, 41, 42, 180, 0, 66, 27, 79, 42, 180, 0, 44, 42, 180, 0, 66, 28, 79, 42, 180, 0, 47]
abbrev dktX3_addWant_0 : List UInt8 := dkwX3_addWant_0 ++ dktX3_addWant_1
theorem dksX3_addWant_0 : cX3_addWant.data.toList.drop 0 = dktX3_addWant_0 := by decide +kernel
theorem dksX3_addWant_1 : cX3_addWant.data.toList.drop 24 = dktX3_addWant_1 := dk_seg dksX3_addWant_0 24 rfl rfl
theorem dX3_addWant_0 : decode cX3_addWant 0 = .ok (.aload_n 0, 1) := dk_42 (dk_at dksX3_addWant_0 0 rfl rfl)
theorem dX3_addWant_1 : decode cX3_addWant 1 = .ok (.getfield 41, 3) := dk_180 0 41 (dk_at dksX3_addWant_0 1 rfl rfl)
theorem dX3_addWant_4 : decode cX3_addWant 4 = .ok (.aload_n 0, 1) := dk_42 (dk_at dksX3_addWant_0 4 rfl rfl)
theorem dX3_addWant_5 : decode cX3_addWant 5 = .ok (.getfield 66, 3) := dk_180 0 66 (dk_at dksX3_addWant_0 5 rfl rfl)
theorem dX3_addWant_8 : decode cX3_addWant 8 = .ok (.iload_n 1, 1) := dk_27 (dk_at dksX3_addWant_0 8 rfl rfl)
theorem dX3_addWant_9 : decode cX3_addWant 9 = .ok (.iastore, 1) := dk_79 (dk_at dksX3_addWant_0 9 rfl rfl)
theorem dX3_addWant_10 : decode cX3_addWant 10 = .ok (.aload_n 0, 1) := dk_42 (dk_at dksX3_addWant_0 10 rfl rfl)
theorem dX3_addWant_11 : decode cX3_addWant 11 = .ok (.getfield 44, 3) := dk_180 0 44 (dk_at dksX3_addWant_0 11 rfl rfl)
theorem dX3_addWant_14 : decode cX3_addWant 14 = .ok (.aload_n 0, 1) := dk_42 (dk_at dksX3_addWant_0 14 rfl rfl)
theorem dX3_addWant_15 : decode cX3_addWant 15 = .ok (.getfield 66, 3) := dk_180 0 66 (dk_at dksX3_addWant_0 15 rfl rfl)
theorem dX3_addWant_18 : decode cX3_addWant 18 = .ok (.iload_n 2, 1) := dk_28 (dk_at dksX3_addWant_0 18 rfl rfl)
theorem dX3_addWant_19 : decode cX3_addWant 19 = .ok (.iastore, 1) := dk_79 (dk_at dksX3_addWant_0 19 rfl rfl)
theorem dX3_addWant_20 : decode cX3_addWant 20 = .ok (.aload_n 0, 1) := dk_42 (dk_at dksX3_addWant_0 20 rfl rfl)
theorem dX3_addWant_21 : decode cX3_addWant 21 = .ok (.getfield 47, 3) := dk_180 0 47 (dk_at dksX3_addWant_0 21 rfl rfl)
theorem dX3_addWant_24 : decode cX3_addWant 24 = .ok (.aload_n 0, 1) := dk_42 (dk_at dksX3_addWant_1 0 rfl rfl)
theorem dX3_addWant_25 : decode cX3_addWant 25 = .ok (.dup, 1) := dk_89 (dk_at dksX3_addWant_1 1 rfl rfl)
theorem dX3_addWant_26 : decode cX3_addWant 26 = .ok (.getfield 66, 3) := dk_180 0 66 (dk_at dksX3_addWant_1 2 rfl rfl)
theorem dX3_addWant_29 : decode cX3_addWant 29 = .ok (.dup_x1, 1) := dk_90 (dk_at dksX3_addWant_1 5 rfl rfl)
theorem dX3_addWant_30 : decode cX3_addWant 30 = .ok (.iconst 1, 1) := dk_4 (dk_at dksX3_addWant_1 6 rfl rfl)
theorem dX3_addWant_31 : decode cX3_addWant 31 = .ok (.iadd, 1) := dk_96 (dk_at dksX3_addWant_1 7 rfl rfl)
theorem dX3_addWant_32 : decode cX3_addWant 32 = .ok (.putfield 66, 3) := dk_181 0 66 (dk_at dksX3_addWant_1 8 rfl rfl)
theorem dX3_addWant_35 : decode cX3_addWant 35 = .ok (.iload_n 3, 1) := dk_29 (dk_at dksX3_addWant_1 11 rfl rfl)
theorem dX3_addWant_36 : decode cX3_addWant 36 = .ok (.iastore, 1) := dk_79 (dk_at dksX3_addWant_1 12 rfl rfl)
theorem dX3_addWant_37 : decode cX3_addWant 37 = .ok (.return_, 1) := dk_177 (dk_at dksX3_addWant_1 13 rfl rfl)
abbrev cX3_farthest : ByteArray := prog_20_method_5_code
def yX3_farthest : MethodName := ⟨RX3, "farthest", "()I"⟩
def dkwX3_farthest_2 : List UInt8 := [180, 0, 44, 28, 46, 184, 0, 86, 60, 132, 2, 1, 167, 255, 234, 27, 172]
abbrev dktX3_farthest_2 : List UInt8 := dkwX3_farthest_2 ++ []
def dkwX3_farthest_1 : List UInt8 := [184, 0, 86, 60, 132, 2, 1, 167, 255, 234, 3, 61, 28, 42, 180, 0, 66, 162, 0, 20, 27, 42]
abbrev dktX3_farthest_1 : List UInt8 := dkwX3_farthest_1 ++ dktX3_farthest_2
def dkwX3_farthest_0 : List UInt8 := [42, 180, 0, 54, 60, 3, 61, 28, 42, 180, 0, 60, 162, 0, 20, 27, 42, 180, 0, 24, 28, 46]
abbrev dktX3_farthest_0 : List UInt8 := dkwX3_farthest_0 ++ dktX3_farthest_1
theorem dksX3_farthest_0 : cX3_farthest.data.toList.drop 0 = dktX3_farthest_0 := by decide +kernel
theorem dksX3_farthest_1 : cX3_farthest.data.toList.drop 22 = dktX3_farthest_1 := dk_seg dksX3_farthest_0 22 rfl rfl
theorem dksX3_farthest_2 : cX3_farthest.data.toList.drop 44 = dktX3_farthest_2 := dk_seg dksX3_farthest_1 22 rfl rfl
theorem dX3_farthest_0 : decode cX3_farthest 0 = .ok (.aload_n 0, 1) := dk_42 (dk_at dksX3_farthest_0 0 rfl rfl)
theorem dX3_farthest_1 : decode cX3_farthest 1 = .ok (.getfield 54, 3) := dk_180 0 54 (dk_at dksX3_farthest_0 1 rfl rfl)
theorem dX3_farthest_4 : decode cX3_farthest 4 = .ok (.istore_n 1, 1) := dk_60 (dk_at dksX3_farthest_0 4 rfl rfl)
theorem dX3_farthest_5 : decode cX3_farthest 5 = .ok (.iconst 0, 1) := dk_3 (dk_at dksX3_farthest_0 5 rfl rfl)
theorem dX3_farthest_6 : decode cX3_farthest 6 = .ok (.istore_n 2, 1) := dk_61 (dk_at dksX3_farthest_0 6 rfl rfl)
theorem dX3_farthest_7 : decode cX3_farthest 7 = .ok (.iload_n 2, 1) := dk_28 (dk_at dksX3_farthest_0 7 rfl rfl)
theorem dX3_farthest_8 : decode cX3_farthest 8 = .ok (.aload_n 0, 1) := dk_42 (dk_at dksX3_farthest_0 8 rfl rfl)
theorem dX3_farthest_9 : decode cX3_farthest 9 = .ok (.getfield 60, 3) := dk_180 0 60 (dk_at dksX3_farthest_0 9 rfl rfl)
theorem dX3_farthest_12 : decode cX3_farthest 12 = .ok (.if_icmp .ge 20, 3) := dk_162 0 20 (dk_at dksX3_farthest_0 12 rfl rfl)
theorem dX3_farthest_15 : decode cX3_farthest 15 = .ok (.iload_n 1, 1) := dk_27 (dk_at dksX3_farthest_0 15 rfl rfl)
theorem dX3_farthest_16 : decode cX3_farthest 16 = .ok (.aload_n 0, 1) := dk_42 (dk_at dksX3_farthest_0 16 rfl rfl)
theorem dX3_farthest_17 : decode cX3_farthest 17 = .ok (.getfield 24, 3) := dk_180 0 24 (dk_at dksX3_farthest_0 17 rfl rfl)
theorem dX3_farthest_20 : decode cX3_farthest 20 = .ok (.iload_n 2, 1) := dk_28 (dk_at dksX3_farthest_0 20 rfl rfl)
theorem dX3_farthest_21 : decode cX3_farthest 21 = .ok (.iaload, 1) := dk_46 (dk_at dksX3_farthest_0 21 rfl rfl)
theorem dX3_farthest_22 : decode cX3_farthest 22 = .ok (.invokestatic 86, 3) := dk_184 0 86 (dk_at dksX3_farthest_1 0 rfl rfl)
theorem dX3_farthest_25 : decode cX3_farthest 25 = .ok (.istore_n 1, 1) := dk_60 (dk_at dksX3_farthest_1 3 rfl rfl)
theorem dX3_farthest_26 : decode cX3_farthest 26 = .ok (.iinc 2 1, 3) := dk_132 2 1 (dk_at dksX3_farthest_1 4 rfl rfl)
theorem dX3_farthest_29 : decode cX3_farthest 29 = .ok (.goto (-22), 3) := dk_167 255 234 (dk_at dksX3_farthest_1 7 rfl rfl)
theorem dX3_farthest_32 : decode cX3_farthest 32 = .ok (.iconst 0, 1) := dk_3 (dk_at dksX3_farthest_1 10 rfl rfl)
theorem dX3_farthest_33 : decode cX3_farthest 33 = .ok (.istore_n 2, 1) := dk_61 (dk_at dksX3_farthest_1 11 rfl rfl)
theorem dX3_farthest_34 : decode cX3_farthest 34 = .ok (.iload_n 2, 1) := dk_28 (dk_at dksX3_farthest_1 12 rfl rfl)
theorem dX3_farthest_35 : decode cX3_farthest 35 = .ok (.aload_n 0, 1) := dk_42 (dk_at dksX3_farthest_1 13 rfl rfl)
theorem dX3_farthest_36 : decode cX3_farthest 36 = .ok (.getfield 66, 3) := dk_180 0 66 (dk_at dksX3_farthest_1 14 rfl rfl)
theorem dX3_farthest_39 : decode cX3_farthest 39 = .ok (.if_icmp .ge 20, 3) := dk_162 0 20 (dk_at dksX3_farthest_1 17 rfl rfl)
theorem dX3_farthest_42 : decode cX3_farthest 42 = .ok (.iload_n 1, 1) := dk_27 (dk_at dksX3_farthest_1 20 rfl rfl)
theorem dX3_farthest_43 : decode cX3_farthest 43 = .ok (.aload_n 0, 1) := dk_42 (dk_at dksX3_farthest_1 21 rfl rfl)
theorem dX3_farthest_44 : decode cX3_farthest 44 = .ok (.getfield 44, 3) := dk_180 0 44 (dk_at dksX3_farthest_2 0 rfl rfl)
theorem dX3_farthest_47 : decode cX3_farthest 47 = .ok (.iload_n 2, 1) := dk_28 (dk_at dksX3_farthest_2 3 rfl rfl)
theorem dX3_farthest_48 : decode cX3_farthest 48 = .ok (.iaload, 1) := dk_46 (dk_at dksX3_farthest_2 4 rfl rfl)
theorem dX3_farthest_49 : decode cX3_farthest 49 = .ok (.invokestatic 86, 3) := dk_184 0 86 (dk_at dksX3_farthest_2 5 rfl rfl)
theorem dX3_farthest_52 : decode cX3_farthest 52 = .ok (.istore_n 1, 1) := dk_60 (dk_at dksX3_farthest_2 8 rfl rfl)
theorem dX3_farthest_53 : decode cX3_farthest 53 = .ok (.iinc 2 1, 3) := dk_132 2 1 (dk_at dksX3_farthest_2 9 rfl rfl)
theorem dX3_farthest_56 : decode cX3_farthest 56 = .ok (.goto (-22), 3) := dk_167 255 234 (dk_at dksX3_farthest_2 12 rfl rfl)
theorem dX3_farthest_59 : decode cX3_farthest 59 = .ok (.iload_n 1, 1) := dk_27 (dk_at dksX3_farthest_2 15 rfl rfl)
theorem dX3_farthest_60 : decode cX3_farthest 60 = .ok (.ireturn, 1) := dk_172 (dk_at dksX3_farthest_2 16 rfl rfl)
abbrev cX3_mayFlow : ByteArray := prog_20_method_6_code
def yX3_mayFlow : MethodName := ⟨RX3, "mayFlow", "(II)Z"⟩
def dkwX3_mayFlow_5 : List UInt8 := [167, 255, 214, 29, 172]
abbrev dktX3_mayFlow_5 : List UInt8 := dkwX3_mayFlow_5 ++ []
def dkwX3_mayFlow_4 : List UInt8 := [164, 0, 14, 42, 180, 0, 44, 21, 4, 46, 28, 161, 0, 7, 4, 167, 0, 4, 3, 126, 62, 132, 4, 1]
abbrev dktX3_mayFlow_4 : List UInt8 := dkwX3_mayFlow_4 ++ dktX3_mayFlow_5
def dkwX3_mayFlow_3 : List UInt8 := [167, 255, 214, 3, 54, 4, 21, 4, 42, 180, 0, 66, 162, 0, 39, 29, 42, 180, 0, 44, 21, 4, 46, 27]
abbrev dktX3_mayFlow_3 : List UInt8 := dkwX3_mayFlow_3 ++ dktX3_mayFlow_4
def dkwX3_mayFlow_2 : List UInt8 := [164, 0, 14, 42, 180, 0, 24, 21, 4, 46, 28, 161, 0, 7, 4, 167, 0, 4, 3, 126, 62, 132, 4, 1]
abbrev dktX3_mayFlow_2 : List UInt8 := dkwX3_mayFlow_2 ++ dktX3_mayFlow_3
def dkwX3_mayFlow_1 : List UInt8 := [62, 3, 54, 4, 21, 4, 42, 180, 0, 60, 162, 0, 39, 29, 42, 180, 0, 24, 21, 4, 46, 27]
abbrev dktX3_mayFlow_1 : List UInt8 := dkwX3_mayFlow_1 ++ dktX3_mayFlow_2
def dkwX3_mayFlow_0 : List UInt8 := [27, 133, 9, 28, 133, 184, 0, 78, 153, 0, 15, 28, 42, 180, 0, 9, 163, 0, 7, 4, 167, 0, 4, 3]
abbrev dktX3_mayFlow_0 : List UInt8 := dkwX3_mayFlow_0 ++ dktX3_mayFlow_1
theorem dksX3_mayFlow_0 : cX3_mayFlow.data.toList.drop 0 = dktX3_mayFlow_0 := by decide +kernel
theorem dksX3_mayFlow_1 : cX3_mayFlow.data.toList.drop 24 = dktX3_mayFlow_1 := dk_seg dksX3_mayFlow_0 24 rfl rfl
theorem dksX3_mayFlow_2 : cX3_mayFlow.data.toList.drop 46 = dktX3_mayFlow_2 := dk_seg dksX3_mayFlow_1 22 rfl rfl
theorem dksX3_mayFlow_3 : cX3_mayFlow.data.toList.drop 70 = dktX3_mayFlow_3 := dk_seg dksX3_mayFlow_2 24 rfl rfl
theorem dksX3_mayFlow_4 : cX3_mayFlow.data.toList.drop 94 = dktX3_mayFlow_4 := dk_seg dksX3_mayFlow_3 24 rfl rfl
theorem dksX3_mayFlow_5 : cX3_mayFlow.data.toList.drop 118 = dktX3_mayFlow_5 := dk_seg dksX3_mayFlow_4 24 rfl rfl
theorem dX3_mayFlow_0 : decode cX3_mayFlow 0 = .ok (.iload_n 1, 1) := dk_27 (dk_at dksX3_mayFlow_0 0 rfl rfl)
theorem dX3_mayFlow_1 : decode cX3_mayFlow 1 = .ok (.i2l, 1) := dk_133 (dk_at dksX3_mayFlow_0 1 rfl rfl)
theorem dX3_mayFlow_2 : decode cX3_mayFlow 2 = .ok (.lconst 0, 1) := dk_9 (dk_at dksX3_mayFlow_0 2 rfl rfl)
theorem dX3_mayFlow_3 : decode cX3_mayFlow 3 = .ok (.iload_n 2, 1) := dk_28 (dk_at dksX3_mayFlow_0 3 rfl rfl)
theorem dX3_mayFlow_4 : decode cX3_mayFlow 4 = .ok (.i2l, 1) := dk_133 (dk_at dksX3_mayFlow_0 4 rfl rfl)
theorem dX3_mayFlow_5 : decode cX3_mayFlow 5 = .ok (.invokestatic 78, 3) := dk_184 0 78 (dk_at dksX3_mayFlow_0 5 rfl rfl)
theorem dX3_mayFlow_8 : decode cX3_mayFlow 8 = .ok (.ifCond .eq 15, 3) := dk_153 0 15 (dk_at dksX3_mayFlow_0 8 rfl rfl)
theorem dX3_mayFlow_11 : decode cX3_mayFlow 11 = .ok (.iload_n 2, 1) := dk_28 (dk_at dksX3_mayFlow_0 11 rfl rfl)
theorem dX3_mayFlow_12 : decode cX3_mayFlow 12 = .ok (.aload_n 0, 1) := dk_42 (dk_at dksX3_mayFlow_0 12 rfl rfl)
theorem dX3_mayFlow_13 : decode cX3_mayFlow 13 = .ok (.getfield 9, 3) := dk_180 0 9 (dk_at dksX3_mayFlow_0 13 rfl rfl)
theorem dX3_mayFlow_16 : decode cX3_mayFlow 16 = .ok (.if_icmp .gt 7, 3) := dk_163 0 7 (dk_at dksX3_mayFlow_0 16 rfl rfl)
theorem dX3_mayFlow_19 : decode cX3_mayFlow 19 = .ok (.iconst 1, 1) := dk_4 (dk_at dksX3_mayFlow_0 19 rfl rfl)
theorem dX3_mayFlow_20 : decode cX3_mayFlow 20 = .ok (.goto 4, 3) := dk_167 0 4 (dk_at dksX3_mayFlow_0 20 rfl rfl)
theorem dX3_mayFlow_23 : decode cX3_mayFlow 23 = .ok (.iconst 0, 1) := dk_3 (dk_at dksX3_mayFlow_0 23 rfl rfl)
theorem dX3_mayFlow_24 : decode cX3_mayFlow 24 = .ok (.istore_n 3, 1) := dk_62 (dk_at dksX3_mayFlow_1 0 rfl rfl)
theorem dX3_mayFlow_25 : decode cX3_mayFlow 25 = .ok (.iconst 0, 1) := dk_3 (dk_at dksX3_mayFlow_1 1 rfl rfl)
theorem dX3_mayFlow_26 : decode cX3_mayFlow 26 = .ok (.istore 4, 2) := dk_54 4 (dk_at dksX3_mayFlow_1 2 rfl rfl)
theorem dX3_mayFlow_28 : decode cX3_mayFlow 28 = .ok (.iload 4, 2) := dk_21 4 (dk_at dksX3_mayFlow_1 4 rfl rfl)
theorem dX3_mayFlow_30 : decode cX3_mayFlow 30 = .ok (.aload_n 0, 1) := dk_42 (dk_at dksX3_mayFlow_1 6 rfl rfl)
theorem dX3_mayFlow_31 : decode cX3_mayFlow 31 = .ok (.getfield 60, 3) := dk_180 0 60 (dk_at dksX3_mayFlow_1 7 rfl rfl)
theorem dX3_mayFlow_34 : decode cX3_mayFlow 34 = .ok (.if_icmp .ge 39, 3) := dk_162 0 39 (dk_at dksX3_mayFlow_1 10 rfl rfl)
theorem dX3_mayFlow_37 : decode cX3_mayFlow 37 = .ok (.iload_n 3, 1) := dk_29 (dk_at dksX3_mayFlow_1 13 rfl rfl)
theorem dX3_mayFlow_38 : decode cX3_mayFlow 38 = .ok (.aload_n 0, 1) := dk_42 (dk_at dksX3_mayFlow_1 14 rfl rfl)
theorem dX3_mayFlow_39 : decode cX3_mayFlow 39 = .ok (.getfield 24, 3) := dk_180 0 24 (dk_at dksX3_mayFlow_1 15 rfl rfl)
theorem dX3_mayFlow_42 : decode cX3_mayFlow 42 = .ok (.iload 4, 2) := dk_21 4 (dk_at dksX3_mayFlow_1 18 rfl rfl)
theorem dX3_mayFlow_44 : decode cX3_mayFlow 44 = .ok (.iaload, 1) := dk_46 (dk_at dksX3_mayFlow_1 20 rfl rfl)
theorem dX3_mayFlow_45 : decode cX3_mayFlow 45 = .ok (.iload_n 1, 1) := dk_27 (dk_at dksX3_mayFlow_1 21 rfl rfl)
theorem dX3_mayFlow_46 : decode cX3_mayFlow 46 = .ok (.if_icmp .le 14, 3) := dk_164 0 14 (dk_at dksX3_mayFlow_2 0 rfl rfl)
theorem dX3_mayFlow_49 : decode cX3_mayFlow 49 = .ok (.aload_n 0, 1) := dk_42 (dk_at dksX3_mayFlow_2 3 rfl rfl)
theorem dX3_mayFlow_50 : decode cX3_mayFlow 50 = .ok (.getfield 24, 3) := dk_180 0 24 (dk_at dksX3_mayFlow_2 4 rfl rfl)
theorem dX3_mayFlow_53 : decode cX3_mayFlow 53 = .ok (.iload 4, 2) := dk_21 4 (dk_at dksX3_mayFlow_2 7 rfl rfl)
theorem dX3_mayFlow_55 : decode cX3_mayFlow 55 = .ok (.iaload, 1) := dk_46 (dk_at dksX3_mayFlow_2 9 rfl rfl)
theorem dX3_mayFlow_56 : decode cX3_mayFlow 56 = .ok (.iload_n 2, 1) := dk_28 (dk_at dksX3_mayFlow_2 10 rfl rfl)
theorem dX3_mayFlow_57 : decode cX3_mayFlow 57 = .ok (.if_icmp .lt 7, 3) := dk_161 0 7 (dk_at dksX3_mayFlow_2 11 rfl rfl)
theorem dX3_mayFlow_60 : decode cX3_mayFlow 60 = .ok (.iconst 1, 1) := dk_4 (dk_at dksX3_mayFlow_2 14 rfl rfl)
theorem dX3_mayFlow_61 : decode cX3_mayFlow 61 = .ok (.goto 4, 3) := dk_167 0 4 (dk_at dksX3_mayFlow_2 15 rfl rfl)
theorem dX3_mayFlow_64 : decode cX3_mayFlow 64 = .ok (.iconst 0, 1) := dk_3 (dk_at dksX3_mayFlow_2 18 rfl rfl)
theorem dX3_mayFlow_65 : decode cX3_mayFlow 65 = .ok (.iand, 1) := dk_126 (dk_at dksX3_mayFlow_2 19 rfl rfl)
theorem dX3_mayFlow_66 : decode cX3_mayFlow 66 = .ok (.istore_n 3, 1) := dk_62 (dk_at dksX3_mayFlow_2 20 rfl rfl)
theorem dX3_mayFlow_67 : decode cX3_mayFlow 67 = .ok (.iinc 4 1, 3) := dk_132 4 1 (dk_at dksX3_mayFlow_2 21 rfl rfl)
theorem dX3_mayFlow_70 : decode cX3_mayFlow 70 = .ok (.goto (-42), 3) := dk_167 255 214 (dk_at dksX3_mayFlow_3 0 rfl rfl)
theorem dX3_mayFlow_73 : decode cX3_mayFlow 73 = .ok (.iconst 0, 1) := dk_3 (dk_at dksX3_mayFlow_3 3 rfl rfl)
theorem dX3_mayFlow_74 : decode cX3_mayFlow 74 = .ok (.istore 4, 2) := dk_54 4 (dk_at dksX3_mayFlow_3 4 rfl rfl)
theorem dX3_mayFlow_76 : decode cX3_mayFlow 76 = .ok (.iload 4, 2) := dk_21 4 (dk_at dksX3_mayFlow_3 6 rfl rfl)
theorem dX3_mayFlow_78 : decode cX3_mayFlow 78 = .ok (.aload_n 0, 1) := dk_42 (dk_at dksX3_mayFlow_3 8 rfl rfl)
theorem dX3_mayFlow_79 : decode cX3_mayFlow 79 = .ok (.getfield 66, 3) := dk_180 0 66 (dk_at dksX3_mayFlow_3 9 rfl rfl)
theorem dX3_mayFlow_82 : decode cX3_mayFlow 82 = .ok (.if_icmp .ge 39, 3) := dk_162 0 39 (dk_at dksX3_mayFlow_3 12 rfl rfl)
theorem dX3_mayFlow_85 : decode cX3_mayFlow 85 = .ok (.iload_n 3, 1) := dk_29 (dk_at dksX3_mayFlow_3 15 rfl rfl)
theorem dX3_mayFlow_86 : decode cX3_mayFlow 86 = .ok (.aload_n 0, 1) := dk_42 (dk_at dksX3_mayFlow_3 16 rfl rfl)
theorem dX3_mayFlow_87 : decode cX3_mayFlow 87 = .ok (.getfield 44, 3) := dk_180 0 44 (dk_at dksX3_mayFlow_3 17 rfl rfl)
theorem dX3_mayFlow_90 : decode cX3_mayFlow 90 = .ok (.iload 4, 2) := dk_21 4 (dk_at dksX3_mayFlow_3 20 rfl rfl)
theorem dX3_mayFlow_92 : decode cX3_mayFlow 92 = .ok (.iaload, 1) := dk_46 (dk_at dksX3_mayFlow_3 22 rfl rfl)
theorem dX3_mayFlow_93 : decode cX3_mayFlow 93 = .ok (.iload_n 1, 1) := dk_27 (dk_at dksX3_mayFlow_3 23 rfl rfl)
theorem dX3_mayFlow_94 : decode cX3_mayFlow 94 = .ok (.if_icmp .le 14, 3) := dk_164 0 14 (dk_at dksX3_mayFlow_4 0 rfl rfl)
theorem dX3_mayFlow_97 : decode cX3_mayFlow 97 = .ok (.aload_n 0, 1) := dk_42 (dk_at dksX3_mayFlow_4 3 rfl rfl)
theorem dX3_mayFlow_98 : decode cX3_mayFlow 98 = .ok (.getfield 44, 3) := dk_180 0 44 (dk_at dksX3_mayFlow_4 4 rfl rfl)
theorem dX3_mayFlow_101 : decode cX3_mayFlow 101 = .ok (.iload 4, 2) := dk_21 4 (dk_at dksX3_mayFlow_4 7 rfl rfl)
theorem dX3_mayFlow_103 : decode cX3_mayFlow 103 = .ok (.iaload, 1) := dk_46 (dk_at dksX3_mayFlow_4 9 rfl rfl)
theorem dX3_mayFlow_104 : decode cX3_mayFlow 104 = .ok (.iload_n 2, 1) := dk_28 (dk_at dksX3_mayFlow_4 10 rfl rfl)
theorem dX3_mayFlow_105 : decode cX3_mayFlow 105 = .ok (.if_icmp .lt 7, 3) := dk_161 0 7 (dk_at dksX3_mayFlow_4 11 rfl rfl)
theorem dX3_mayFlow_108 : decode cX3_mayFlow 108 = .ok (.iconst 1, 1) := dk_4 (dk_at dksX3_mayFlow_4 14 rfl rfl)
theorem dX3_mayFlow_109 : decode cX3_mayFlow 109 = .ok (.goto 4, 3) := dk_167 0 4 (dk_at dksX3_mayFlow_4 15 rfl rfl)
theorem dX3_mayFlow_112 : decode cX3_mayFlow 112 = .ok (.iconst 0, 1) := dk_3 (dk_at dksX3_mayFlow_4 18 rfl rfl)
theorem dX3_mayFlow_113 : decode cX3_mayFlow 113 = .ok (.iand, 1) := dk_126 (dk_at dksX3_mayFlow_4 19 rfl rfl)
theorem dX3_mayFlow_114 : decode cX3_mayFlow 114 = .ok (.istore_n 3, 1) := dk_62 (dk_at dksX3_mayFlow_4 20 rfl rfl)
theorem dX3_mayFlow_115 : decode cX3_mayFlow 115 = .ok (.iinc 4 1, 3) := dk_132 4 1 (dk_at dksX3_mayFlow_4 21 rfl rfl)
theorem dX3_mayFlow_118 : decode cX3_mayFlow 118 = .ok (.goto (-42), 3) := dk_167 255 214 (dk_at dksX3_mayFlow_5 0 rfl rfl)
theorem dX3_mayFlow_121 : decode cX3_mayFlow 121 = .ok (.iload_n 3, 1) := dk_29 (dk_at dksX3_mayFlow_5 3 rfl rfl)
theorem dX3_mayFlow_122 : decode cX3_mayFlow 122 = .ok (.ireturn, 1) := dk_172 (dk_at dksX3_mayFlow_5 4 rfl rfl)
abbrev cX3_again : ByteArray := prog_20_method_2_code
def yX3_again : MethodName := ⟨RX3, "again", "()LNoFartherThanAThrow$World;"⟩
def dkwX3_again_10 : List UInt8 := [176]
abbrev dktX3_again_10 : List UInt8 := dkwX3_again_10 ++ []
def dkwX3_again_9 : List UInt8 := [180, 0, 66, 184, 0, 72, 42, 180, 0, 47, 3, 43, 180, 0, 47, 3, 42, 180, 0, 66, 184, 0, 72, 43]
abbrev dktX3_again_9 : List UInt8 := dkwX3_again_9 ++ dktX3_again_10
def dkwX3_again_8 : List UInt8 := [180, 0, 41, 3, 42, 180, 0, 66, 184, 0, 72, 42, 180, 0, 44, 3, 43, 180, 0, 44, 3, 42]
abbrev dktX3_again_8 : List UInt8 := dkwX3_again_8 ++ dktX3_again_9
def dkwX3_again_7 : List UInt8 := [180, 0, 38, 3, 43, 180, 0, 38, 3, 42, 180, 0, 63, 184, 0, 72, 42, 180, 0, 41, 3, 43]
abbrev dktX3_again_7 : List UInt8 := dkwX3_again_7 ++ dktX3_again_8
def dkwX3_again_6 : List UInt8 := [180, 0, 60, 184, 0, 72, 42, 180, 0, 35, 3, 43, 180, 0, 35, 3, 42, 180, 0, 63, 184, 0, 72, 42]
abbrev dktX3_again_6 : List UInt8 := dkwX3_again_6 ++ dktX3_again_7
def dkwX3_again_5 : List UInt8 := [3, 43, 180, 0, 28, 3, 42, 180, 0, 60, 184, 0, 72, 42, 180, 0, 31, 3, 43, 180, 0, 31, 3, 42]
abbrev dktX3_again_5 : List UInt8 := dkwX3_again_5 ++ dktX3_again_6
def dkwX3_again_4 : List UInt8 := [184, 0, 72, 42, 180, 0, 24, 3, 43, 180, 0, 24, 3, 42, 180, 0, 60, 184, 0, 72, 42, 180, 0, 28]
abbrev dktX3_again_4 : List UInt8 := dkwX3_again_4 ++ dktX3_again_5
def dkwX3_again_3 : List UInt8 := [43, 42, 180, 0, 15, 181, 0, 15, 42, 180, 0, 20, 3, 43, 180, 0, 20, 3, 42, 180, 0, 60]
abbrev dktX3_again_3 : List UInt8 := dkwX3_again_3 ++ dktX3_again_4
def dkwX3_again_2 : List UInt8 := [43, 42, 180, 0, 63, 181, 0, 63, 43, 42, 180, 0, 66, 181, 0, 66, 43, 42, 180, 0, 69, 181, 0, 69]
abbrev dktX3_again_2 : List UInt8 := dkwX3_again_2 ++ dktX3_again_3
def dkwX3_again_1 : List UInt8 := [43, 42, 180, 0, 54, 181, 0, 54, 43, 42, 180, 0, 57, 181, 0, 57, 43, 42, 180, 0, 60, 181, 0, 60]
abbrev dktX3_again_1 : List UInt8 := dkwX3_again_1 ++ dktX3_again_2
def dkwX3_again_0 : List UInt8 := [187, 0, 10, 89, 183, 0, 50, 76, 43, 42, 180, 0, 9, 181, 0, 9, 43, 42, 180, 0, 51, 181, 0, 51]
abbrev dktX3_again_0 : List UInt8 := dkwX3_again_0 ++ dktX3_again_1
theorem dksX3_again_0 : cX3_again.data.toList.drop 0 = dktX3_again_0 := by decide +kernel
theorem dksX3_again_1 : cX3_again.data.toList.drop 24 = dktX3_again_1 := dk_seg dksX3_again_0 24 rfl rfl
theorem dksX3_again_2 : cX3_again.data.toList.drop 48 = dktX3_again_2 := dk_seg dksX3_again_1 24 rfl rfl
theorem dksX3_again_3 : cX3_again.data.toList.drop 72 = dktX3_again_3 := dk_seg dksX3_again_2 24 rfl rfl
theorem dksX3_again_4 : cX3_again.data.toList.drop 94 = dktX3_again_4 := dk_seg dksX3_again_3 22 rfl rfl
theorem dksX3_again_5 : cX3_again.data.toList.drop 118 = dktX3_again_5 := dk_seg dksX3_again_4 24 rfl rfl
theorem dksX3_again_6 : cX3_again.data.toList.drop 142 = dktX3_again_6 := dk_seg dksX3_again_5 24 rfl rfl
theorem dksX3_again_7 : cX3_again.data.toList.drop 166 = dktX3_again_7 := dk_seg dksX3_again_6 24 rfl rfl
theorem dksX3_again_8 : cX3_again.data.toList.drop 188 = dktX3_again_8 := dk_seg dksX3_again_7 22 rfl rfl
theorem dksX3_again_9 : cX3_again.data.toList.drop 210 = dktX3_again_9 := dk_seg dksX3_again_8 22 rfl rfl
theorem dksX3_again_10 : cX3_again.data.toList.drop 234 = dktX3_again_10 := dk_seg dksX3_again_9 24 rfl rfl
theorem dX3_again_0 : decode cX3_again 0 = .ok (.new 10, 3) := dk_187 0 10 (dk_at dksX3_again_0 0 rfl rfl)
theorem dX3_again_3 : decode cX3_again 3 = .ok (.dup, 1) := dk_89 (dk_at dksX3_again_0 3 rfl rfl)
theorem dX3_again_4 : decode cX3_again 4 = .ok (.invokespecial 50, 3) := dk_183 0 50 (dk_at dksX3_again_0 4 rfl rfl)
theorem dX3_again_7 : decode cX3_again 7 = .ok (.astore_n 1, 1) := dk_76 (dk_at dksX3_again_0 7 rfl rfl)
theorem dX3_again_8 : decode cX3_again 8 = .ok (.aload_n 1, 1) := dk_43 (dk_at dksX3_again_0 8 rfl rfl)
theorem dX3_again_9 : decode cX3_again 9 = .ok (.aload_n 0, 1) := dk_42 (dk_at dksX3_again_0 9 rfl rfl)
theorem dX3_again_10 : decode cX3_again 10 = .ok (.getfield 9, 3) := dk_180 0 9 (dk_at dksX3_again_0 10 rfl rfl)
theorem dX3_again_13 : decode cX3_again 13 = .ok (.putfield 9, 3) := dk_181 0 9 (dk_at dksX3_again_0 13 rfl rfl)
theorem dX3_again_16 : decode cX3_again 16 = .ok (.aload_n 1, 1) := dk_43 (dk_at dksX3_again_0 16 rfl rfl)
theorem dX3_again_17 : decode cX3_again 17 = .ok (.aload_n 0, 1) := dk_42 (dk_at dksX3_again_0 17 rfl rfl)
theorem dX3_again_18 : decode cX3_again 18 = .ok (.getfield 51, 3) := dk_180 0 51 (dk_at dksX3_again_0 18 rfl rfl)
theorem dX3_again_21 : decode cX3_again 21 = .ok (.putfield 51, 3) := dk_181 0 51 (dk_at dksX3_again_0 21 rfl rfl)
theorem dX3_again_24 : decode cX3_again 24 = .ok (.aload_n 1, 1) := dk_43 (dk_at dksX3_again_1 0 rfl rfl)
theorem dX3_again_25 : decode cX3_again 25 = .ok (.aload_n 0, 1) := dk_42 (dk_at dksX3_again_1 1 rfl rfl)
theorem dX3_again_26 : decode cX3_again 26 = .ok (.getfield 54, 3) := dk_180 0 54 (dk_at dksX3_again_1 2 rfl rfl)
theorem dX3_again_29 : decode cX3_again 29 = .ok (.putfield 54, 3) := dk_181 0 54 (dk_at dksX3_again_1 5 rfl rfl)
theorem dX3_again_32 : decode cX3_again 32 = .ok (.aload_n 1, 1) := dk_43 (dk_at dksX3_again_1 8 rfl rfl)
theorem dX3_again_33 : decode cX3_again 33 = .ok (.aload_n 0, 1) := dk_42 (dk_at dksX3_again_1 9 rfl rfl)
theorem dX3_again_34 : decode cX3_again 34 = .ok (.getfield 57, 3) := dk_180 0 57 (dk_at dksX3_again_1 10 rfl rfl)
theorem dX3_again_37 : decode cX3_again 37 = .ok (.putfield 57, 3) := dk_181 0 57 (dk_at dksX3_again_1 13 rfl rfl)
theorem dX3_again_40 : decode cX3_again 40 = .ok (.aload_n 1, 1) := dk_43 (dk_at dksX3_again_1 16 rfl rfl)
theorem dX3_again_41 : decode cX3_again 41 = .ok (.aload_n 0, 1) := dk_42 (dk_at dksX3_again_1 17 rfl rfl)
theorem dX3_again_42 : decode cX3_again 42 = .ok (.getfield 60, 3) := dk_180 0 60 (dk_at dksX3_again_1 18 rfl rfl)
theorem dX3_again_45 : decode cX3_again 45 = .ok (.putfield 60, 3) := dk_181 0 60 (dk_at dksX3_again_1 21 rfl rfl)
theorem dX3_again_48 : decode cX3_again 48 = .ok (.aload_n 1, 1) := dk_43 (dk_at dksX3_again_2 0 rfl rfl)
theorem dX3_again_49 : decode cX3_again 49 = .ok (.aload_n 0, 1) := dk_42 (dk_at dksX3_again_2 1 rfl rfl)
theorem dX3_again_50 : decode cX3_again 50 = .ok (.getfield 63, 3) := dk_180 0 63 (dk_at dksX3_again_2 2 rfl rfl)
theorem dX3_again_53 : decode cX3_again 53 = .ok (.putfield 63, 3) := dk_181 0 63 (dk_at dksX3_again_2 5 rfl rfl)
theorem dX3_again_56 : decode cX3_again 56 = .ok (.aload_n 1, 1) := dk_43 (dk_at dksX3_again_2 8 rfl rfl)
theorem dX3_again_57 : decode cX3_again 57 = .ok (.aload_n 0, 1) := dk_42 (dk_at dksX3_again_2 9 rfl rfl)
theorem dX3_again_58 : decode cX3_again 58 = .ok (.getfield 66, 3) := dk_180 0 66 (dk_at dksX3_again_2 10 rfl rfl)
theorem dX3_again_61 : decode cX3_again 61 = .ok (.putfield 66, 3) := dk_181 0 66 (dk_at dksX3_again_2 13 rfl rfl)
theorem dX3_again_64 : decode cX3_again 64 = .ok (.aload_n 1, 1) := dk_43 (dk_at dksX3_again_2 16 rfl rfl)
theorem dX3_again_65 : decode cX3_again 65 = .ok (.aload_n 0, 1) := dk_42 (dk_at dksX3_again_2 17 rfl rfl)
theorem dX3_again_66 : decode cX3_again 66 = .ok (.getfield 69, 3) := dk_180 0 69 (dk_at dksX3_again_2 18 rfl rfl)
theorem dX3_again_69 : decode cX3_again 69 = .ok (.putfield 69, 3) := dk_181 0 69 (dk_at dksX3_again_2 21 rfl rfl)
theorem dX3_again_72 : decode cX3_again 72 = .ok (.aload_n 1, 1) := dk_43 (dk_at dksX3_again_3 0 rfl rfl)
theorem dX3_again_73 : decode cX3_again 73 = .ok (.aload_n 0, 1) := dk_42 (dk_at dksX3_again_3 1 rfl rfl)
theorem dX3_again_74 : decode cX3_again 74 = .ok (.getfield 15, 3) := dk_180 0 15 (dk_at dksX3_again_3 2 rfl rfl)
theorem dX3_again_77 : decode cX3_again 77 = .ok (.putfield 15, 3) := dk_181 0 15 (dk_at dksX3_again_3 5 rfl rfl)
theorem dX3_again_80 : decode cX3_again 80 = .ok (.aload_n 0, 1) := dk_42 (dk_at dksX3_again_3 8 rfl rfl)
theorem dX3_again_81 : decode cX3_again 81 = .ok (.getfield 20, 3) := dk_180 0 20 (dk_at dksX3_again_3 9 rfl rfl)
theorem dX3_again_84 : decode cX3_again 84 = .ok (.iconst 0, 1) := dk_3 (dk_at dksX3_again_3 12 rfl rfl)
theorem dX3_again_85 : decode cX3_again 85 = .ok (.aload_n 1, 1) := dk_43 (dk_at dksX3_again_3 13 rfl rfl)
theorem dX3_again_86 : decode cX3_again 86 = .ok (.getfield 20, 3) := dk_180 0 20 (dk_at dksX3_again_3 14 rfl rfl)
theorem dX3_again_89 : decode cX3_again 89 = .ok (.iconst 0, 1) := dk_3 (dk_at dksX3_again_3 17 rfl rfl)
theorem dX3_again_90 : decode cX3_again 90 = .ok (.aload_n 0, 1) := dk_42 (dk_at dksX3_again_3 18 rfl rfl)
theorem dX3_again_91 : decode cX3_again 91 = .ok (.getfield 60, 3) := dk_180 0 60 (dk_at dksX3_again_3 19 rfl rfl)
theorem dX3_again_94 : decode cX3_again 94 = .ok (.invokestatic 72, 3) := dk_184 0 72 (dk_at dksX3_again_4 0 rfl rfl)
theorem dX3_again_97 : decode cX3_again 97 = .ok (.aload_n 0, 1) := dk_42 (dk_at dksX3_again_4 3 rfl rfl)
theorem dX3_again_98 : decode cX3_again 98 = .ok (.getfield 24, 3) := dk_180 0 24 (dk_at dksX3_again_4 4 rfl rfl)
theorem dX3_again_101 : decode cX3_again 101 = .ok (.iconst 0, 1) := dk_3 (dk_at dksX3_again_4 7 rfl rfl)
theorem dX3_again_102 : decode cX3_again 102 = .ok (.aload_n 1, 1) := dk_43 (dk_at dksX3_again_4 8 rfl rfl)
theorem dX3_again_103 : decode cX3_again 103 = .ok (.getfield 24, 3) := dk_180 0 24 (dk_at dksX3_again_4 9 rfl rfl)
theorem dX3_again_106 : decode cX3_again 106 = .ok (.iconst 0, 1) := dk_3 (dk_at dksX3_again_4 12 rfl rfl)
theorem dX3_again_107 : decode cX3_again 107 = .ok (.aload_n 0, 1) := dk_42 (dk_at dksX3_again_4 13 rfl rfl)
theorem dX3_again_108 : decode cX3_again 108 = .ok (.getfield 60, 3) := dk_180 0 60 (dk_at dksX3_again_4 14 rfl rfl)
theorem dX3_again_111 : decode cX3_again 111 = .ok (.invokestatic 72, 3) := dk_184 0 72 (dk_at dksX3_again_4 17 rfl rfl)
theorem dX3_again_114 : decode cX3_again 114 = .ok (.aload_n 0, 1) := dk_42 (dk_at dksX3_again_4 20 rfl rfl)
theorem dX3_again_115 : decode cX3_again 115 = .ok (.getfield 28, 3) := dk_180 0 28 (dk_at dksX3_again_4 21 rfl rfl)
theorem dX3_again_118 : decode cX3_again 118 = .ok (.iconst 0, 1) := dk_3 (dk_at dksX3_again_5 0 rfl rfl)
theorem dX3_again_119 : decode cX3_again 119 = .ok (.aload_n 1, 1) := dk_43 (dk_at dksX3_again_5 1 rfl rfl)
theorem dX3_again_120 : decode cX3_again 120 = .ok (.getfield 28, 3) := dk_180 0 28 (dk_at dksX3_again_5 2 rfl rfl)
theorem dX3_again_123 : decode cX3_again 123 = .ok (.iconst 0, 1) := dk_3 (dk_at dksX3_again_5 5 rfl rfl)
theorem dX3_again_124 : decode cX3_again 124 = .ok (.aload_n 0, 1) := dk_42 (dk_at dksX3_again_5 6 rfl rfl)
theorem dX3_again_125 : decode cX3_again 125 = .ok (.getfield 60, 3) := dk_180 0 60 (dk_at dksX3_again_5 7 rfl rfl)
theorem dX3_again_128 : decode cX3_again 128 = .ok (.invokestatic 72, 3) := dk_184 0 72 (dk_at dksX3_again_5 10 rfl rfl)
theorem dX3_again_131 : decode cX3_again 131 = .ok (.aload_n 0, 1) := dk_42 (dk_at dksX3_again_5 13 rfl rfl)
theorem dX3_again_132 : decode cX3_again 132 = .ok (.getfield 31, 3) := dk_180 0 31 (dk_at dksX3_again_5 14 rfl rfl)
theorem dX3_again_135 : decode cX3_again 135 = .ok (.iconst 0, 1) := dk_3 (dk_at dksX3_again_5 17 rfl rfl)
theorem dX3_again_136 : decode cX3_again 136 = .ok (.aload_n 1, 1) := dk_43 (dk_at dksX3_again_5 18 rfl rfl)
theorem dX3_again_137 : decode cX3_again 137 = .ok (.getfield 31, 3) := dk_180 0 31 (dk_at dksX3_again_5 19 rfl rfl)
theorem dX3_again_140 : decode cX3_again 140 = .ok (.iconst 0, 1) := dk_3 (dk_at dksX3_again_5 22 rfl rfl)
theorem dX3_again_141 : decode cX3_again 141 = .ok (.aload_n 0, 1) := dk_42 (dk_at dksX3_again_5 23 rfl rfl)
theorem dX3_again_142 : decode cX3_again 142 = .ok (.getfield 60, 3) := dk_180 0 60 (dk_at dksX3_again_6 0 rfl rfl)
theorem dX3_again_145 : decode cX3_again 145 = .ok (.invokestatic 72, 3) := dk_184 0 72 (dk_at dksX3_again_6 3 rfl rfl)
theorem dX3_again_148 : decode cX3_again 148 = .ok (.aload_n 0, 1) := dk_42 (dk_at dksX3_again_6 6 rfl rfl)
theorem dX3_again_149 : decode cX3_again 149 = .ok (.getfield 35, 3) := dk_180 0 35 (dk_at dksX3_again_6 7 rfl rfl)
theorem dX3_again_152 : decode cX3_again 152 = .ok (.iconst 0, 1) := dk_3 (dk_at dksX3_again_6 10 rfl rfl)
theorem dX3_again_153 : decode cX3_again 153 = .ok (.aload_n 1, 1) := dk_43 (dk_at dksX3_again_6 11 rfl rfl)
theorem dX3_again_154 : decode cX3_again 154 = .ok (.getfield 35, 3) := dk_180 0 35 (dk_at dksX3_again_6 12 rfl rfl)
theorem dX3_again_157 : decode cX3_again 157 = .ok (.iconst 0, 1) := dk_3 (dk_at dksX3_again_6 15 rfl rfl)
theorem dX3_again_158 : decode cX3_again 158 = .ok (.aload_n 0, 1) := dk_42 (dk_at dksX3_again_6 16 rfl rfl)
theorem dX3_again_159 : decode cX3_again 159 = .ok (.getfield 63, 3) := dk_180 0 63 (dk_at dksX3_again_6 17 rfl rfl)
theorem dX3_again_162 : decode cX3_again 162 = .ok (.invokestatic 72, 3) := dk_184 0 72 (dk_at dksX3_again_6 20 rfl rfl)
theorem dX3_again_165 : decode cX3_again 165 = .ok (.aload_n 0, 1) := dk_42 (dk_at dksX3_again_6 23 rfl rfl)
theorem dX3_again_166 : decode cX3_again 166 = .ok (.getfield 38, 3) := dk_180 0 38 (dk_at dksX3_again_7 0 rfl rfl)
theorem dX3_again_169 : decode cX3_again 169 = .ok (.iconst 0, 1) := dk_3 (dk_at dksX3_again_7 3 rfl rfl)
theorem dX3_again_170 : decode cX3_again 170 = .ok (.aload_n 1, 1) := dk_43 (dk_at dksX3_again_7 4 rfl rfl)
theorem dX3_again_171 : decode cX3_again 171 = .ok (.getfield 38, 3) := dk_180 0 38 (dk_at dksX3_again_7 5 rfl rfl)
theorem dX3_again_174 : decode cX3_again 174 = .ok (.iconst 0, 1) := dk_3 (dk_at dksX3_again_7 8 rfl rfl)
theorem dX3_again_175 : decode cX3_again 175 = .ok (.aload_n 0, 1) := dk_42 (dk_at dksX3_again_7 9 rfl rfl)
theorem dX3_again_176 : decode cX3_again 176 = .ok (.getfield 63, 3) := dk_180 0 63 (dk_at dksX3_again_7 10 rfl rfl)
theorem dX3_again_179 : decode cX3_again 179 = .ok (.invokestatic 72, 3) := dk_184 0 72 (dk_at dksX3_again_7 13 rfl rfl)
theorem dX3_again_182 : decode cX3_again 182 = .ok (.aload_n 0, 1) := dk_42 (dk_at dksX3_again_7 16 rfl rfl)
theorem dX3_again_183 : decode cX3_again 183 = .ok (.getfield 41, 3) := dk_180 0 41 (dk_at dksX3_again_7 17 rfl rfl)
theorem dX3_again_186 : decode cX3_again 186 = .ok (.iconst 0, 1) := dk_3 (dk_at dksX3_again_7 20 rfl rfl)
theorem dX3_again_187 : decode cX3_again 187 = .ok (.aload_n 1, 1) := dk_43 (dk_at dksX3_again_7 21 rfl rfl)
theorem dX3_again_188 : decode cX3_again 188 = .ok (.getfield 41, 3) := dk_180 0 41 (dk_at dksX3_again_8 0 rfl rfl)
theorem dX3_again_191 : decode cX3_again 191 = .ok (.iconst 0, 1) := dk_3 (dk_at dksX3_again_8 3 rfl rfl)
theorem dX3_again_192 : decode cX3_again 192 = .ok (.aload_n 0, 1) := dk_42 (dk_at dksX3_again_8 4 rfl rfl)
theorem dX3_again_193 : decode cX3_again 193 = .ok (.getfield 66, 3) := dk_180 0 66 (dk_at dksX3_again_8 5 rfl rfl)
theorem dX3_again_196 : decode cX3_again 196 = .ok (.invokestatic 72, 3) := dk_184 0 72 (dk_at dksX3_again_8 8 rfl rfl)
theorem dX3_again_199 : decode cX3_again 199 = .ok (.aload_n 0, 1) := dk_42 (dk_at dksX3_again_8 11 rfl rfl)
theorem dX3_again_200 : decode cX3_again 200 = .ok (.getfield 44, 3) := dk_180 0 44 (dk_at dksX3_again_8 12 rfl rfl)
theorem dX3_again_203 : decode cX3_again 203 = .ok (.iconst 0, 1) := dk_3 (dk_at dksX3_again_8 15 rfl rfl)
theorem dX3_again_204 : decode cX3_again 204 = .ok (.aload_n 1, 1) := dk_43 (dk_at dksX3_again_8 16 rfl rfl)
theorem dX3_again_205 : decode cX3_again 205 = .ok (.getfield 44, 3) := dk_180 0 44 (dk_at dksX3_again_8 17 rfl rfl)
theorem dX3_again_208 : decode cX3_again 208 = .ok (.iconst 0, 1) := dk_3 (dk_at dksX3_again_8 20 rfl rfl)
theorem dX3_again_209 : decode cX3_again 209 = .ok (.aload_n 0, 1) := dk_42 (dk_at dksX3_again_8 21 rfl rfl)
theorem dX3_again_210 : decode cX3_again 210 = .ok (.getfield 66, 3) := dk_180 0 66 (dk_at dksX3_again_9 0 rfl rfl)
theorem dX3_again_213 : decode cX3_again 213 = .ok (.invokestatic 72, 3) := dk_184 0 72 (dk_at dksX3_again_9 3 rfl rfl)
theorem dX3_again_216 : decode cX3_again 216 = .ok (.aload_n 0, 1) := dk_42 (dk_at dksX3_again_9 6 rfl rfl)
theorem dX3_again_217 : decode cX3_again 217 = .ok (.getfield 47, 3) := dk_180 0 47 (dk_at dksX3_again_9 7 rfl rfl)
theorem dX3_again_220 : decode cX3_again 220 = .ok (.iconst 0, 1) := dk_3 (dk_at dksX3_again_9 10 rfl rfl)
theorem dX3_again_221 : decode cX3_again 221 = .ok (.aload_n 1, 1) := dk_43 (dk_at dksX3_again_9 11 rfl rfl)
theorem dX3_again_222 : decode cX3_again 222 = .ok (.getfield 47, 3) := dk_180 0 47 (dk_at dksX3_again_9 12 rfl rfl)
theorem dX3_again_225 : decode cX3_again 225 = .ok (.iconst 0, 1) := dk_3 (dk_at dksX3_again_9 15 rfl rfl)
theorem dX3_again_226 : decode cX3_again 226 = .ok (.aload_n 0, 1) := dk_42 (dk_at dksX3_again_9 16 rfl rfl)
theorem dX3_again_227 : decode cX3_again 227 = .ok (.getfield 66, 3) := dk_180 0 66 (dk_at dksX3_again_9 17 rfl rfl)
theorem dX3_again_230 : decode cX3_again 230 = .ok (.invokestatic 72, 3) := dk_184 0 72 (dk_at dksX3_again_9 20 rfl rfl)
theorem dX3_again_233 : decode cX3_again 233 = .ok (.aload_n 1, 1) := dk_43 (dk_at dksX3_again_9 23 rfl rfl)
theorem dX3_again_234 : decode cX3_again 234 = .ok (.areturn, 1) := dk_176 (dk_at dksX3_again_10 0 rfl rfl)
abbrev cX3_far : ByteArray := prog_20_method_11_code
def yX3_far : MethodName := ⟨RX3, "far", "(II)I"⟩
def dkwX3_far_1 : List UInt8 := [182, 0, 100, 172]
abbrev dktX3_far_1 : List UInt8 := dkwX3_far_1 ++ []
def dkwX3_far_0 : List UInt8 := [42, 180, 0, 20, 28, 50, 42, 180, 0, 35, 27, 46, 42, 180, 0, 38, 27, 46, 100, 42, 180, 0, 57]
abbrev dktX3_far_0 : List UInt8 := dkwX3_far_0 ++ dktX3_far_1
theorem dksX3_far_0 : cX3_far.data.toList.drop 0 = dktX3_far_0 := by decide +kernel
theorem dksX3_far_1 : cX3_far.data.toList.drop 23 = dktX3_far_1 := dk_seg dksX3_far_0 23 rfl rfl
theorem dX3_far_0 : decode cX3_far 0 = .ok (.aload_n 0, 1) := dk_42 (dk_at dksX3_far_0 0 rfl rfl)
theorem dX3_far_1 : decode cX3_far 1 = .ok (.getfield 20, 3) := dk_180 0 20 (dk_at dksX3_far_0 1 rfl rfl)
theorem dX3_far_4 : decode cX3_far 4 = .ok (.iload_n 2, 1) := dk_28 (dk_at dksX3_far_0 4 rfl rfl)
theorem dX3_far_5 : decode cX3_far 5 = .ok (.aaload, 1) := dk_50 (dk_at dksX3_far_0 5 rfl rfl)
theorem dX3_far_6 : decode cX3_far 6 = .ok (.aload_n 0, 1) := dk_42 (dk_at dksX3_far_0 6 rfl rfl)
theorem dX3_far_7 : decode cX3_far 7 = .ok (.getfield 35, 3) := dk_180 0 35 (dk_at dksX3_far_0 7 rfl rfl)
theorem dX3_far_10 : decode cX3_far 10 = .ok (.iload_n 1, 1) := dk_27 (dk_at dksX3_far_0 10 rfl rfl)
theorem dX3_far_11 : decode cX3_far 11 = .ok (.iaload, 1) := dk_46 (dk_at dksX3_far_0 11 rfl rfl)
theorem dX3_far_12 : decode cX3_far 12 = .ok (.aload_n 0, 1) := dk_42 (dk_at dksX3_far_0 12 rfl rfl)
theorem dX3_far_13 : decode cX3_far 13 = .ok (.getfield 38, 3) := dk_180 0 38 (dk_at dksX3_far_0 13 rfl rfl)
theorem dX3_far_16 : decode cX3_far 16 = .ok (.iload_n 1, 1) := dk_27 (dk_at dksX3_far_0 16 rfl rfl)
theorem dX3_far_17 : decode cX3_far 17 = .ok (.iaload, 1) := dk_46 (dk_at dksX3_far_0 17 rfl rfl)
theorem dX3_far_18 : decode cX3_far 18 = .ok (.isub, 1) := dk_100 (dk_at dksX3_far_0 18 rfl rfl)
theorem dX3_far_19 : decode cX3_far 19 = .ok (.aload_n 0, 1) := dk_42 (dk_at dksX3_far_0 19 rfl rfl)
theorem dX3_far_20 : decode cX3_far 20 = .ok (.getfield 57, 3) := dk_180 0 57 (dk_at dksX3_far_0 20 rfl rfl)
theorem dX3_far_23 : decode cX3_far 23 = .ok (.invokevirtual 100, 3) := dk_182 0 100 (dk_at dksX3_far_1 0 rfl rfl)
theorem dX3_far_26 : decode cX3_far 26 = .ok (.ireturn, 1) := dk_172 (dk_at dksX3_far_1 3 rfl rfl)
abbrev cX3_wrong : ByteArray := prog_20_method_12_code
def yX3_wrong : MethodName := ⟨RX3, "wrong", "(III)I"⟩
def dkwX3_wrong_3 : List UInt8 := [182, 0, 107, 164, 0, 5, 7, 172, 42, 180, 0, 31, 28, 51, 153, 0, 7, 8, 167, 0, 4, 3, 172]
abbrev dktX3_wrong_3 : List UInt8 := dkwX3_wrong_3 ++ []
def dkwX3_wrong_2 : List UInt8 := [28, 46, 29, 96, 182, 0, 82, 153, 0, 5, 6, 172, 29, 153, 0, 16, 29, 184, 0, 103, 42, 27, 28]
abbrev dktX3_wrong_2 : List UInt8 := dkwX3_wrong_2 ++ dktX3_wrong_3
def dkwX3_wrong_1 : List UInt8 := [180, 0, 9, 42, 180, 0, 24, 28, 46, 100, 133, 184, 0, 78, 154, 0, 5, 5, 172, 42, 42, 180, 0, 24]
abbrev dktX3_wrong_1 : List UInt8 := dkwX3_wrong_1 ++ dktX3_wrong_2
def dkwX3_wrong_0 : List UInt8 := [42, 180, 0, 28, 28, 46, 27, 160, 0, 5, 4, 172, 29, 133, 42, 180, 0, 24, 28, 46, 116, 133, 42]
abbrev dktX3_wrong_0 : List UInt8 := dkwX3_wrong_0 ++ dktX3_wrong_1
theorem dksX3_wrong_0 : cX3_wrong.data.toList.drop 0 = dktX3_wrong_0 := by decide +kernel
theorem dksX3_wrong_1 : cX3_wrong.data.toList.drop 23 = dktX3_wrong_1 := dk_seg dksX3_wrong_0 23 rfl rfl
theorem dksX3_wrong_2 : cX3_wrong.data.toList.drop 47 = dktX3_wrong_2 := dk_seg dksX3_wrong_1 24 rfl rfl
theorem dksX3_wrong_3 : cX3_wrong.data.toList.drop 70 = dktX3_wrong_3 := dk_seg dksX3_wrong_2 23 rfl rfl
theorem dX3_wrong_0 : decode cX3_wrong 0 = .ok (.aload_n 0, 1) := dk_42 (dk_at dksX3_wrong_0 0 rfl rfl)
theorem dX3_wrong_1 : decode cX3_wrong 1 = .ok (.getfield 28, 3) := dk_180 0 28 (dk_at dksX3_wrong_0 1 rfl rfl)
theorem dX3_wrong_4 : decode cX3_wrong 4 = .ok (.iload_n 2, 1) := dk_28 (dk_at dksX3_wrong_0 4 rfl rfl)
theorem dX3_wrong_5 : decode cX3_wrong 5 = .ok (.iaload, 1) := dk_46 (dk_at dksX3_wrong_0 5 rfl rfl)
theorem dX3_wrong_6 : decode cX3_wrong 6 = .ok (.iload_n 1, 1) := dk_27 (dk_at dksX3_wrong_0 6 rfl rfl)
theorem dX3_wrong_7 : decode cX3_wrong 7 = .ok (.if_icmp .ne 5, 3) := dk_160 0 5 (dk_at dksX3_wrong_0 7 rfl rfl)
theorem dX3_wrong_10 : decode cX3_wrong 10 = .ok (.iconst 1, 1) := dk_4 (dk_at dksX3_wrong_0 10 rfl rfl)
theorem dX3_wrong_11 : decode cX3_wrong 11 = .ok (.ireturn, 1) := dk_172 (dk_at dksX3_wrong_0 11 rfl rfl)
theorem dX3_wrong_12 : decode cX3_wrong 12 = .ok (.iload_n 3, 1) := dk_29 (dk_at dksX3_wrong_0 12 rfl rfl)
theorem dX3_wrong_13 : decode cX3_wrong 13 = .ok (.i2l, 1) := dk_133 (dk_at dksX3_wrong_0 13 rfl rfl)
theorem dX3_wrong_14 : decode cX3_wrong 14 = .ok (.aload_n 0, 1) := dk_42 (dk_at dksX3_wrong_0 14 rfl rfl)
theorem dX3_wrong_15 : decode cX3_wrong 15 = .ok (.getfield 24, 3) := dk_180 0 24 (dk_at dksX3_wrong_0 15 rfl rfl)
theorem dX3_wrong_18 : decode cX3_wrong 18 = .ok (.iload_n 2, 1) := dk_28 (dk_at dksX3_wrong_0 18 rfl rfl)
theorem dX3_wrong_19 : decode cX3_wrong 19 = .ok (.iaload, 1) := dk_46 (dk_at dksX3_wrong_0 19 rfl rfl)
theorem dX3_wrong_20 : decode cX3_wrong 20 = .ok (.ineg, 1) := dk_116 (dk_at dksX3_wrong_0 20 rfl rfl)
theorem dX3_wrong_21 : decode cX3_wrong 21 = .ok (.i2l, 1) := dk_133 (dk_at dksX3_wrong_0 21 rfl rfl)
theorem dX3_wrong_22 : decode cX3_wrong 22 = .ok (.aload_n 0, 1) := dk_42 (dk_at dksX3_wrong_0 22 rfl rfl)
theorem dX3_wrong_23 : decode cX3_wrong 23 = .ok (.getfield 9, 3) := dk_180 0 9 (dk_at dksX3_wrong_1 0 rfl rfl)
theorem dX3_wrong_26 : decode cX3_wrong 26 = .ok (.aload_n 0, 1) := dk_42 (dk_at dksX3_wrong_1 3 rfl rfl)
theorem dX3_wrong_27 : decode cX3_wrong 27 = .ok (.getfield 24, 3) := dk_180 0 24 (dk_at dksX3_wrong_1 4 rfl rfl)
theorem dX3_wrong_30 : decode cX3_wrong 30 = .ok (.iload_n 2, 1) := dk_28 (dk_at dksX3_wrong_1 7 rfl rfl)
theorem dX3_wrong_31 : decode cX3_wrong 31 = .ok (.iaload, 1) := dk_46 (dk_at dksX3_wrong_1 8 rfl rfl)
theorem dX3_wrong_32 : decode cX3_wrong 32 = .ok (.isub, 1) := dk_100 (dk_at dksX3_wrong_1 9 rfl rfl)
theorem dX3_wrong_33 : decode cX3_wrong 33 = .ok (.i2l, 1) := dk_133 (dk_at dksX3_wrong_1 10 rfl rfl)
theorem dX3_wrong_34 : decode cX3_wrong 34 = .ok (.invokestatic 78, 3) := dk_184 0 78 (dk_at dksX3_wrong_1 11 rfl rfl)
theorem dX3_wrong_37 : decode cX3_wrong 37 = .ok (.ifCond .ne 5, 3) := dk_154 0 5 (dk_at dksX3_wrong_1 14 rfl rfl)
theorem dX3_wrong_40 : decode cX3_wrong 40 = .ok (.iconst 2, 1) := dk_5 (dk_at dksX3_wrong_1 17 rfl rfl)
theorem dX3_wrong_41 : decode cX3_wrong 41 = .ok (.ireturn, 1) := dk_172 (dk_at dksX3_wrong_1 18 rfl rfl)
theorem dX3_wrong_42 : decode cX3_wrong 42 = .ok (.aload_n 0, 1) := dk_42 (dk_at dksX3_wrong_1 19 rfl rfl)
theorem dX3_wrong_43 : decode cX3_wrong 43 = .ok (.aload_n 0, 1) := dk_42 (dk_at dksX3_wrong_1 20 rfl rfl)
theorem dX3_wrong_44 : decode cX3_wrong 44 = .ok (.getfield 24, 3) := dk_180 0 24 (dk_at dksX3_wrong_1 21 rfl rfl)
theorem dX3_wrong_47 : decode cX3_wrong 47 = .ok (.iload_n 2, 1) := dk_28 (dk_at dksX3_wrong_2 0 rfl rfl)
theorem dX3_wrong_48 : decode cX3_wrong 48 = .ok (.iaload, 1) := dk_46 (dk_at dksX3_wrong_2 1 rfl rfl)
theorem dX3_wrong_49 : decode cX3_wrong 49 = .ok (.iload_n 3, 1) := dk_29 (dk_at dksX3_wrong_2 2 rfl rfl)
theorem dX3_wrong_50 : decode cX3_wrong 50 = .ok (.iadd, 1) := dk_96 (dk_at dksX3_wrong_2 3 rfl rfl)
theorem dX3_wrong_51 : decode cX3_wrong 51 = .ok (.invokevirtual 82, 3) := dk_182 0 82 (dk_at dksX3_wrong_2 4 rfl rfl)
theorem dX3_wrong_54 : decode cX3_wrong 54 = .ok (.ifCond .eq 5, 3) := dk_153 0 5 (dk_at dksX3_wrong_2 7 rfl rfl)
theorem dX3_wrong_57 : decode cX3_wrong 57 = .ok (.iconst 3, 1) := dk_6 (dk_at dksX3_wrong_2 10 rfl rfl)
theorem dX3_wrong_58 : decode cX3_wrong 58 = .ok (.ireturn, 1) := dk_172 (dk_at dksX3_wrong_2 11 rfl rfl)
theorem dX3_wrong_59 : decode cX3_wrong 59 = .ok (.iload_n 3, 1) := dk_29 (dk_at dksX3_wrong_2 12 rfl rfl)
theorem dX3_wrong_60 : decode cX3_wrong 60 = .ok (.ifCond .eq 16, 3) := dk_153 0 16 (dk_at dksX3_wrong_2 13 rfl rfl)
theorem dX3_wrong_63 : decode cX3_wrong 63 = .ok (.iload_n 3, 1) := dk_29 (dk_at dksX3_wrong_2 16 rfl rfl)
theorem dX3_wrong_64 : decode cX3_wrong 64 = .ok (.invokestatic 103, 3) := dk_184 0 103 (dk_at dksX3_wrong_2 17 rfl rfl)
theorem dX3_wrong_67 : decode cX3_wrong 67 = .ok (.aload_n 0, 1) := dk_42 (dk_at dksX3_wrong_2 20 rfl rfl)
theorem dX3_wrong_68 : decode cX3_wrong 68 = .ok (.iload_n 1, 1) := dk_27 (dk_at dksX3_wrong_2 21 rfl rfl)
theorem dX3_wrong_69 : decode cX3_wrong 69 = .ok (.iload_n 2, 1) := dk_28 (dk_at dksX3_wrong_2 22 rfl rfl)
theorem dX3_wrong_70 : decode cX3_wrong 70 = .ok (.invokevirtual 107, 3) := dk_182 0 107 (dk_at dksX3_wrong_3 0 rfl rfl)
theorem dX3_wrong_73 : decode cX3_wrong 73 = .ok (.if_icmp .le 5, 3) := dk_164 0 5 (dk_at dksX3_wrong_3 3 rfl rfl)
theorem dX3_wrong_76 : decode cX3_wrong 76 = .ok (.iconst 4, 1) := dk_7 (dk_at dksX3_wrong_3 6 rfl rfl)
theorem dX3_wrong_77 : decode cX3_wrong 77 = .ok (.ireturn, 1) := dk_172 (dk_at dksX3_wrong_3 7 rfl rfl)
theorem dX3_wrong_78 : decode cX3_wrong 78 = .ok (.aload_n 0, 1) := dk_42 (dk_at dksX3_wrong_3 8 rfl rfl)
theorem dX3_wrong_79 : decode cX3_wrong 79 = .ok (.getfield 31, 3) := dk_180 0 31 (dk_at dksX3_wrong_3 9 rfl rfl)
theorem dX3_wrong_82 : decode cX3_wrong 82 = .ok (.iload_n 2, 1) := dk_28 (dk_at dksX3_wrong_3 12 rfl rfl)
theorem dX3_wrong_83 : decode cX3_wrong 83 = .ok (.baload, 1) := dk_51 (dk_at dksX3_wrong_3 13 rfl rfl)
theorem dX3_wrong_84 : decode cX3_wrong 84 = .ok (.ifCond .eq 7, 3) := dk_153 0 7 (dk_at dksX3_wrong_3 14 rfl rfl)
theorem dX3_wrong_87 : decode cX3_wrong 87 = .ok (.iconst 5, 1) := dk_8 (dk_at dksX3_wrong_3 17 rfl rfl)
theorem dX3_wrong_88 : decode cX3_wrong 88 = .ok (.goto 4, 3) := dk_167 0 4 (dk_at dksX3_wrong_3 18 rfl rfl)
theorem dX3_wrong_91 : decode cX3_wrong 91 = .ok (.iconst 0, 1) := dk_3 (dk_at dksX3_wrong_3 21 rfl rfl)
theorem dX3_wrong_92 : decode cX3_wrong 92 = .ok (.ireturn, 1) := dk_172 (dk_at dksX3_wrong_3 22 rfl rfl)
abbrev cX3_carry : ByteArray := prog_20_method_14_code
def yX3_carry : MethodName := ⟨RX3, "carry", "(III)V"⟩
def dkwX3_carry_0 : List UInt8 := [42, 180, 0, 24, 28, 92, 46, 29, 96, 79, 42, 180, 0, 28, 28, 27, 79, 42, 27, 28, 182, 0, 114, 177]
abbrev dktX3_carry_0 : List UInt8 := dkwX3_carry_0 ++ []
theorem dksX3_carry_0 : cX3_carry.data.toList.drop 0 = dktX3_carry_0 := by decide +kernel
theorem dX3_carry_0 : decode cX3_carry 0 = .ok (.aload_n 0, 1) := dk_42 (dk_at dksX3_carry_0 0 rfl rfl)
theorem dX3_carry_1 : decode cX3_carry 1 = .ok (.getfield 24, 3) := dk_180 0 24 (dk_at dksX3_carry_0 1 rfl rfl)
theorem dX3_carry_4 : decode cX3_carry 4 = .ok (.iload_n 2, 1) := dk_28 (dk_at dksX3_carry_0 4 rfl rfl)
theorem dX3_carry_5 : decode cX3_carry 5 = .ok (.dup2, 1) := dk_92 (dk_at dksX3_carry_0 5 rfl rfl)
theorem dX3_carry_6 : decode cX3_carry 6 = .ok (.iaload, 1) := dk_46 (dk_at dksX3_carry_0 6 rfl rfl)
theorem dX3_carry_7 : decode cX3_carry 7 = .ok (.iload_n 3, 1) := dk_29 (dk_at dksX3_carry_0 7 rfl rfl)
theorem dX3_carry_8 : decode cX3_carry 8 = .ok (.iadd, 1) := dk_96 (dk_at dksX3_carry_0 8 rfl rfl)
theorem dX3_carry_9 : decode cX3_carry 9 = .ok (.iastore, 1) := dk_79 (dk_at dksX3_carry_0 9 rfl rfl)
theorem dX3_carry_10 : decode cX3_carry 10 = .ok (.aload_n 0, 1) := dk_42 (dk_at dksX3_carry_0 10 rfl rfl)
theorem dX3_carry_11 : decode cX3_carry 11 = .ok (.getfield 28, 3) := dk_180 0 28 (dk_at dksX3_carry_0 11 rfl rfl)
theorem dX3_carry_14 : decode cX3_carry 14 = .ok (.iload_n 2, 1) := dk_28 (dk_at dksX3_carry_0 14 rfl rfl)
theorem dX3_carry_15 : decode cX3_carry 15 = .ok (.iload_n 1, 1) := dk_27 (dk_at dksX3_carry_0 15 rfl rfl)
theorem dX3_carry_16 : decode cX3_carry 16 = .ok (.iastore, 1) := dk_79 (dk_at dksX3_carry_0 16 rfl rfl)
theorem dX3_carry_17 : decode cX3_carry 17 = .ok (.aload_n 0, 1) := dk_42 (dk_at dksX3_carry_0 17 rfl rfl)
theorem dX3_carry_18 : decode cX3_carry 18 = .ok (.iload_n 1, 1) := dk_27 (dk_at dksX3_carry_0 18 rfl rfl)
theorem dX3_carry_19 : decode cX3_carry 19 = .ok (.iload_n 2, 1) := dk_28 (dk_at dksX3_carry_0 19 rfl rfl)
theorem dX3_carry_20 : decode cX3_carry 20 = .ok (.invokevirtual 114, 3) := dk_182 0 114 (dk_at dksX3_carry_0 20 rfl rfl)
theorem dX3_carry_23 : decode cX3_carry 23 = .ok (.return_, 1) := dk_177 (dk_at dksX3_carry_0 23 rfl rfl)
abbrev cX3_tires : ByteArray := prog_20_method_13_code
def yX3_tires : MethodName := ⟨RX3, "tires", "(II)V"⟩
def dkwX3_tires_1 : List UInt8 := [108, 96, 4, 96, 184, 0, 111, 79, 177]
abbrev dktX3_tires_1 : List UInt8 := dkwX3_tires_1 ++ []
def dkwX3_tires_0 : List UInt8 := [42, 180, 0, 38, 27, 16, 99, 42, 180, 0, 38, 27, 46, 42, 180, 0, 20, 28, 50, 180, 0, 108, 16, 10]
abbrev dktX3_tires_0 : List UInt8 := dkwX3_tires_0 ++ dktX3_tires_1
theorem dksX3_tires_0 : cX3_tires.data.toList.drop 0 = dktX3_tires_0 := by decide +kernel
theorem dksX3_tires_1 : cX3_tires.data.toList.drop 24 = dktX3_tires_1 := dk_seg dksX3_tires_0 24 rfl rfl
theorem dX3_tires_0 : decode cX3_tires 0 = .ok (.aload_n 0, 1) := dk_42 (dk_at dksX3_tires_0 0 rfl rfl)
theorem dX3_tires_1 : decode cX3_tires 1 = .ok (.getfield 38, 3) := dk_180 0 38 (dk_at dksX3_tires_0 1 rfl rfl)
theorem dX3_tires_4 : decode cX3_tires 4 = .ok (.iload_n 1, 1) := dk_27 (dk_at dksX3_tires_0 4 rfl rfl)
theorem dX3_tires_5 : decode cX3_tires 5 = .ok (.bipush 99, 2) := dk_16 99 (dk_at dksX3_tires_0 5 rfl rfl)
theorem dX3_tires_7 : decode cX3_tires 7 = .ok (.aload_n 0, 1) := dk_42 (dk_at dksX3_tires_0 7 rfl rfl)
theorem dX3_tires_8 : decode cX3_tires 8 = .ok (.getfield 38, 3) := dk_180 0 38 (dk_at dksX3_tires_0 8 rfl rfl)
theorem dX3_tires_11 : decode cX3_tires 11 = .ok (.iload_n 1, 1) := dk_27 (dk_at dksX3_tires_0 11 rfl rfl)
theorem dX3_tires_12 : decode cX3_tires 12 = .ok (.iaload, 1) := dk_46 (dk_at dksX3_tires_0 12 rfl rfl)
theorem dX3_tires_13 : decode cX3_tires 13 = .ok (.aload_n 0, 1) := dk_42 (dk_at dksX3_tires_0 13 rfl rfl)
theorem dX3_tires_14 : decode cX3_tires 14 = .ok (.getfield 20, 3) := dk_180 0 20 (dk_at dksX3_tires_0 14 rfl rfl)
theorem dX3_tires_17 : decode cX3_tires 17 = .ok (.iload_n 2, 1) := dk_28 (dk_at dksX3_tires_0 17 rfl rfl)
theorem dX3_tires_18 : decode cX3_tires 18 = .ok (.aaload, 1) := dk_50 (dk_at dksX3_tires_0 18 rfl rfl)
theorem dX3_tires_19 : decode cX3_tires 19 = .ok (.getfield 108, 3) := dk_180 0 108 (dk_at dksX3_tires_0 19 rfl rfl)
theorem dX3_tires_22 : decode cX3_tires 22 = .ok (.bipush 10, 2) := dk_16 10 (dk_at dksX3_tires_0 22 rfl rfl)
theorem dX3_tires_24 : decode cX3_tires 24 = .ok (.idiv, 1) := dk_108 (dk_at dksX3_tires_1 0 rfl rfl)
theorem dX3_tires_25 : decode cX3_tires 25 = .ok (.iadd, 1) := dk_96 (dk_at dksX3_tires_1 1 rfl rfl)
theorem dX3_tires_26 : decode cX3_tires 26 = .ok (.iconst 1, 1) := dk_4 (dk_at dksX3_tires_1 2 rfl rfl)
theorem dX3_tires_27 : decode cX3_tires 27 = .ok (.iadd, 1) := dk_96 (dk_at dksX3_tires_1 3 rfl rfl)
theorem dX3_tires_28 : decode cX3_tires 28 = .ok (.invokestatic 111, 3) := dk_184 0 111 (dk_at dksX3_tires_1 4 rfl rfl)
theorem dX3_tires_31 : decode cX3_tires 31 = .ok (.iastore, 1) := dk_79 (dk_at dksX3_tires_1 7 rfl rfl)
theorem dX3_tires_32 : decode cX3_tires 32 = .ok (.return_, 1) := dk_177 (dk_at dksX3_tires_1 8 rfl rfl)
abbrev cX3_brings : ByteArray := prog_20_method_15_code
def yX3_brings : MethodName := ⟨RX3, "brings", "(III)I"⟩
def dkwX3_brings_1 : List UInt8 := [21, 4, 29, 184, 0, 111, 172]
abbrev dktX3_brings_1 : List UInt8 := dkwX3_brings_1 ++ []
def dkwX3_brings_0 : List UInt8 := [27, 28, 96, 54, 4, 42, 21, 4, 182, 0, 82, 153, 0, 13, 27, 42, 180, 0, 51, 184, 0, 86, 54, 4]
abbrev dktX3_brings_0 : List UInt8 := dkwX3_brings_0 ++ dktX3_brings_1
theorem dksX3_brings_0 : cX3_brings.data.toList.drop 0 = dktX3_brings_0 := by decide +kernel
theorem dksX3_brings_1 : cX3_brings.data.toList.drop 24 = dktX3_brings_1 := dk_seg dksX3_brings_0 24 rfl rfl
theorem dX3_brings_0 : decode cX3_brings 0 = .ok (.iload_n 1, 1) := dk_27 (dk_at dksX3_brings_0 0 rfl rfl)
theorem dX3_brings_1 : decode cX3_brings 1 = .ok (.iload_n 2, 1) := dk_28 (dk_at dksX3_brings_0 1 rfl rfl)
theorem dX3_brings_2 : decode cX3_brings 2 = .ok (.iadd, 1) := dk_96 (dk_at dksX3_brings_0 2 rfl rfl)
theorem dX3_brings_3 : decode cX3_brings 3 = .ok (.istore 4, 2) := dk_54 4 (dk_at dksX3_brings_0 3 rfl rfl)
theorem dX3_brings_5 : decode cX3_brings 5 = .ok (.aload_n 0, 1) := dk_42 (dk_at dksX3_brings_0 5 rfl rfl)
theorem dX3_brings_6 : decode cX3_brings 6 = .ok (.iload 4, 2) := dk_21 4 (dk_at dksX3_brings_0 6 rfl rfl)
theorem dX3_brings_8 : decode cX3_brings 8 = .ok (.invokevirtual 82, 3) := dk_182 0 82 (dk_at dksX3_brings_0 8 rfl rfl)
theorem dX3_brings_11 : decode cX3_brings 11 = .ok (.ifCond .eq 13, 3) := dk_153 0 13 (dk_at dksX3_brings_0 11 rfl rfl)
theorem dX3_brings_14 : decode cX3_brings 14 = .ok (.iload_n 1, 1) := dk_27 (dk_at dksX3_brings_0 14 rfl rfl)
theorem dX3_brings_15 : decode cX3_brings 15 = .ok (.aload_n 0, 1) := dk_42 (dk_at dksX3_brings_0 15 rfl rfl)
theorem dX3_brings_16 : decode cX3_brings 16 = .ok (.getfield 51, 3) := dk_180 0 51 (dk_at dksX3_brings_0 16 rfl rfl)
theorem dX3_brings_19 : decode cX3_brings 19 = .ok (.invokestatic 86, 3) := dk_184 0 86 (dk_at dksX3_brings_0 19 rfl rfl)
theorem dX3_brings_22 : decode cX3_brings 22 = .ok (.istore 4, 2) := dk_54 4 (dk_at dksX3_brings_0 22 rfl rfl)
theorem dX3_brings_24 : decode cX3_brings 24 = .ok (.iload 4, 2) := dk_21 4 (dk_at dksX3_brings_1 0 rfl rfl)
theorem dX3_brings_26 : decode cX3_brings 26 = .ok (.iload_n 3, 1) := dk_29 (dk_at dksX3_brings_1 2 rfl rfl)
theorem dX3_brings_27 : decode cX3_brings 27 = .ok (.invokestatic 111, 3) := dk_184 0 111 (dk_at dksX3_brings_1 3 rfl rfl)
theorem dX3_brings_30 : decode cX3_brings 30 = .ok (.ireturn, 1) := dk_172 (dk_at dksX3_brings_1 6 rfl rfl)
abbrev cX3_mayThrow : ByteArray := prog_20_method_16_code
def yX3_mayThrow : MethodName := ⟨RX3, "mayThrow", "(III)Z"⟩
def dkwX3_mayThrow_1 : List UInt8 := [153, 0, 7, 4, 167, 0, 4, 3, 172]
abbrev dktX3_mayThrow_1 : List UInt8 := dkwX3_mayThrow_1 ++ []
def dkwX3_mayThrow_0 : List UInt8 := [29, 5, 42, 27, 28, 182, 0, 107, 104, 163, 0, 22, 42, 42, 180, 0, 24, 28, 46, 29, 96, 182, 0, 118]
abbrev dktX3_mayThrow_0 : List UInt8 := dkwX3_mayThrow_0 ++ dktX3_mayThrow_1
theorem dksX3_mayThrow_0 : cX3_mayThrow.data.toList.drop 0 = dktX3_mayThrow_0 := by decide +kernel
theorem dksX3_mayThrow_1 : cX3_mayThrow.data.toList.drop 24 = dktX3_mayThrow_1 := dk_seg dksX3_mayThrow_0 24 rfl rfl
theorem dX3_mayThrow_0 : decode cX3_mayThrow 0 = .ok (.iload_n 3, 1) := dk_29 (dk_at dksX3_mayThrow_0 0 rfl rfl)
theorem dX3_mayThrow_1 : decode cX3_mayThrow 1 = .ok (.iconst 2, 1) := dk_5 (dk_at dksX3_mayThrow_0 1 rfl rfl)
theorem dX3_mayThrow_2 : decode cX3_mayThrow 2 = .ok (.aload_n 0, 1) := dk_42 (dk_at dksX3_mayThrow_0 2 rfl rfl)
theorem dX3_mayThrow_3 : decode cX3_mayThrow 3 = .ok (.iload_n 1, 1) := dk_27 (dk_at dksX3_mayThrow_0 3 rfl rfl)
theorem dX3_mayThrow_4 : decode cX3_mayThrow 4 = .ok (.iload_n 2, 1) := dk_28 (dk_at dksX3_mayThrow_0 4 rfl rfl)
theorem dX3_mayThrow_5 : decode cX3_mayThrow 5 = .ok (.invokevirtual 107, 3) := dk_182 0 107 (dk_at dksX3_mayThrow_0 5 rfl rfl)
theorem dX3_mayThrow_8 : decode cX3_mayThrow 8 = .ok (.imul, 1) := dk_104 (dk_at dksX3_mayThrow_0 8 rfl rfl)
theorem dX3_mayThrow_9 : decode cX3_mayThrow 9 = .ok (.if_icmp .gt 22, 3) := dk_163 0 22 (dk_at dksX3_mayThrow_0 9 rfl rfl)
theorem dX3_mayThrow_12 : decode cX3_mayThrow 12 = .ok (.aload_n 0, 1) := dk_42 (dk_at dksX3_mayThrow_0 12 rfl rfl)
theorem dX3_mayThrow_13 : decode cX3_mayThrow 13 = .ok (.aload_n 0, 1) := dk_42 (dk_at dksX3_mayThrow_0 13 rfl rfl)
theorem dX3_mayThrow_14 : decode cX3_mayThrow 14 = .ok (.getfield 24, 3) := dk_180 0 24 (dk_at dksX3_mayThrow_0 14 rfl rfl)
theorem dX3_mayThrow_17 : decode cX3_mayThrow 17 = .ok (.iload_n 2, 1) := dk_28 (dk_at dksX3_mayThrow_0 17 rfl rfl)
theorem dX3_mayThrow_18 : decode cX3_mayThrow 18 = .ok (.iaload, 1) := dk_46 (dk_at dksX3_mayThrow_0 18 rfl rfl)
theorem dX3_mayThrow_19 : decode cX3_mayThrow 19 = .ok (.iload_n 3, 1) := dk_29 (dk_at dksX3_mayThrow_0 19 rfl rfl)
theorem dX3_mayThrow_20 : decode cX3_mayThrow 20 = .ok (.iadd, 1) := dk_96 (dk_at dksX3_mayThrow_0 20 rfl rfl)
theorem dX3_mayThrow_21 : decode cX3_mayThrow 21 = .ok (.invokevirtual 118, 3) := dk_182 0 118 (dk_at dksX3_mayThrow_0 21 rfl rfl)
theorem dX3_mayThrow_24 : decode cX3_mayThrow 24 = .ok (.ifCond .eq 7, 3) := dk_153 0 7 (dk_at dksX3_mayThrow_1 0 rfl rfl)
theorem dX3_mayThrow_27 : decode cX3_mayThrow 27 = .ok (.iconst 1, 1) := dk_4 (dk_at dksX3_mayThrow_1 3 rfl rfl)
theorem dX3_mayThrow_28 : decode cX3_mayThrow 28 = .ok (.goto 4, 3) := dk_167 0 4 (dk_at dksX3_mayThrow_1 4 rfl rfl)
theorem dX3_mayThrow_31 : decode cX3_mayThrow 31 = .ok (.iconst 0, 1) := dk_3 (dk_at dksX3_mayThrow_1 7 rfl rfl)
theorem dX3_mayThrow_32 : decode cX3_mayThrow 32 = .ok (.ireturn, 1) := dk_172 (dk_at dksX3_mayThrow_1 8 rfl rfl)
abbrev cX3_draw : ByteArray := prog_20_method_17_code
def yX3_draw : MethodName := ⟨RX3, "draw", "(I)I"⟩
def dkwX3_draw_1 : List UInt8 := [172]
abbrev dktX3_draw_1 : List UInt8 := dkwX3_draw_1 ++ []
def dkwX3_draw_0 : List UInt8 := [42, 42, 180, 0, 15, 18, 121, 104, 17, 48, 57, 96, 181, 0, 15, 42, 180, 0, 15, 16, 16, 124, 27, 112]
abbrev dktX3_draw_0 : List UInt8 := dkwX3_draw_0 ++ dktX3_draw_1
theorem dksX3_draw_0 : cX3_draw.data.toList.drop 0 = dktX3_draw_0 := by decide +kernel
theorem dksX3_draw_1 : cX3_draw.data.toList.drop 24 = dktX3_draw_1 := dk_seg dksX3_draw_0 24 rfl rfl
theorem dX3_draw_0 : decode cX3_draw 0 = .ok (.aload_n 0, 1) := dk_42 (dk_at dksX3_draw_0 0 rfl rfl)
theorem dX3_draw_1 : decode cX3_draw 1 = .ok (.aload_n 0, 1) := dk_42 (dk_at dksX3_draw_0 1 rfl rfl)
theorem dX3_draw_2 : decode cX3_draw 2 = .ok (.getfield 15, 3) := dk_180 0 15 (dk_at dksX3_draw_0 2 rfl rfl)
theorem dX3_draw_5 : decode cX3_draw 5 = .ok (.ldc 121, 2) := dk_18 121 (dk_at dksX3_draw_0 5 rfl rfl)
theorem dX3_draw_7 : decode cX3_draw 7 = .ok (.imul, 1) := dk_104 (dk_at dksX3_draw_0 7 rfl rfl)
theorem dX3_draw_8 : decode cX3_draw 8 = .ok (.sipush 12345, 3) := dk_17 48 57 (dk_at dksX3_draw_0 8 rfl rfl)
theorem dX3_draw_11 : decode cX3_draw 11 = .ok (.iadd, 1) := dk_96 (dk_at dksX3_draw_0 11 rfl rfl)
theorem dX3_draw_12 : decode cX3_draw 12 = .ok (.putfield 15, 3) := dk_181 0 15 (dk_at dksX3_draw_0 12 rfl rfl)
theorem dX3_draw_15 : decode cX3_draw 15 = .ok (.aload_n 0, 1) := dk_42 (dk_at dksX3_draw_0 15 rfl rfl)
theorem dX3_draw_16 : decode cX3_draw 16 = .ok (.getfield 15, 3) := dk_180 0 15 (dk_at dksX3_draw_0 16 rfl rfl)
theorem dX3_draw_19 : decode cX3_draw 19 = .ok (.bipush 16, 2) := dk_16 16 (dk_at dksX3_draw_0 19 rfl rfl)
theorem dX3_draw_21 : decode cX3_draw 21 = .ok (.iushr, 1) := dk_124 (dk_at dksX3_draw_0 21 rfl rfl)
theorem dX3_draw_22 : decode cX3_draw 22 = .ok (.iload_n 1, 1) := dk_27 (dk_at dksX3_draw_0 22 rfl rfl)
theorem dX3_draw_23 : decode cX3_draw 23 = .ok (.irem, 1) := dk_112 (dk_at dksX3_draw_0 23 rfl rfl)
theorem dX3_draw_24 : decode cX3_draw 24 = .ok (.ireturn, 1) := dk_172 (dk_at dksX3_draw_1 0 rfl rfl)
theorem q82 : (Jvm.Cond.initialized "NoFartherThanAThrow$World") ∈ lw_all := lw_g (lw_at lw_m1 4 rfl) rfl
theorem q167 : (Jvm.Cond.instantiable "NoFartherThanAThrow$World" (18 : Nat)) ∈ lw_all := lw_g (lw_at lw_m1 89 rfl) rfl
theorem q169 : (Jvm.Cond.instanceMethod ({ cls := "NoFartherThanAThrow$World", name := "<init>", desc := "()V" } : Jvm.MethodName)) ∈ lw_all := lw_g (lw_at lw_m1 91 rfl) rfl
theorem q170 : (Jvm.Cond.code ({ cls := "NoFartherThanAThrow$World", name := "<init>", desc := "()V" } : Jvm.MethodName) prog_20_method_1_code (1 : Nat) (Option.none : Option Jvm.ClassFile.FieldType)) ∈ lw_all := lw_g (lw_at lw_m1 92 rfl) rfl
theorem q171 : (Jvm.Cond.methodLink "NoFartherThanAThrow$World" (3 : Nat) ({ cls := "java/lang/Object", name := "<init>", desc := "()V" } : Jvm.MethodName)) ∈ lw_all := lw_g (lw_at lw_m1 93 rfl) rfl
theorem q172 : (Jvm.Cond.classLink "NoFartherThanAThrow$World" (18 : Nat) "NoFartherThanAThrow$Thing") ∈ lw_all := lw_g (lw_at lw_m1 94 rfl) rfl
theorem q174 : (Jvm.Cond.fieldLink "NoFartherThanAThrow$World" (9 : Nat) "NoFartherThanAThrow$World" "longWay" "I") ∈ lw_all := lw_g (lw_at lw_m1 96 rfl) rfl
theorem q177 : (Jvm.Cond.fieldLink "NoFartherThanAThrow$World" (51 : Nat) "NoFartherThanAThrow$World" "from" "I") ∈ lw_all := lw_g (lw_at lw_m1 99 rfl) rfl
theorem q180 : (Jvm.Cond.fieldLink "NoFartherThanAThrow$World" (54 : Nat) "NoFartherThanAThrow$World" "to" "I") ∈ lw_all := lw_g (lw_at lw_m1 102 rfl) rfl
theorem q183 : (Jvm.Cond.fieldLink "NoFartherThanAThrow$World" (57 : Nat) "NoFartherThanAThrow$World" "wind" "I") ∈ lw_all := lw_g (lw_at lw_m1 105 rfl) rfl
theorem q187 : (Jvm.Cond.fieldLink "NoFartherThanAThrow$World" (60 : Nat) "NoFartherThanAThrow$World" "thingsThere" "I") ∈ lw_all := lw_g (lw_at lw_m1 109 rfl) rfl
theorem q191 : (Jvm.Cond.fieldLink "NoFartherThanAThrow$World" (63 : Nat) "NoFartherThanAThrow$World" "peopleThere" "I") ∈ lw_all := lw_g (lw_at lw_m1 113 rfl) rfl
theorem q194 : (Jvm.Cond.fieldLink "NoFartherThanAThrow$World" (66 : Nat) "NoFartherThanAThrow$World" "wantsThere" "I") ∈ lw_all := lw_g (lw_at lw_m1 116 rfl) rfl
theorem q198 : (Jvm.Cond.fieldLink "NoFartherThanAThrow$World" (69 : Nat) "NoFartherThanAThrow$World" "gone" "I") ∈ lw_all := lw_g (lw_at lw_m1 120 rfl) rfl
theorem q200 : (Jvm.Cond.fieldLink "NoFartherThanAThrow$World" (15 : Nat) "NoFartherThanAThrow$World" "seed" "I") ∈ lw_all := lw_g (lw_at lw_m1 122 rfl) rfl
theorem q202 : (Jvm.Cond.fieldLink "NoFartherThanAThrow$World" (20 : Nat) "NoFartherThanAThrow$World" "things" "[LNoFartherThanAThrow$Thing;") ∈ lw_all := lw_g (lw_at lw_m1 124 rfl) rfl
theorem q204 : (Jvm.Cond.fieldLink "NoFartherThanAThrow$World" (24 : Nat) "NoFartherThanAThrow$World" "step" "[I") ∈ lw_all := lw_g (lw_at lw_m1 126 rfl) rfl
theorem q207 : (Jvm.Cond.fieldLink "NoFartherThanAThrow$World" (28 : Nat) "NoFartherThanAThrow$World" "last" "[I") ∈ lw_all := lw_g (lw_at lw_m1 129 rfl) rfl
theorem q209 : (Jvm.Cond.fieldLink "NoFartherThanAThrow$World" (31 : Nat) "NoFartherThanAThrow$World" "broken" "[Z") ∈ lw_all := lw_g (lw_at lw_m1 131 rfl) rfl
theorem q212 : (Jvm.Cond.fieldLink "NoFartherThanAThrow$World" (35 : Nat) "NoFartherThanAThrow$World" "strength" "[I") ∈ lw_all := lw_g (lw_at lw_m1 134 rfl) rfl
theorem q214 : (Jvm.Cond.fieldLink "NoFartherThanAThrow$World" (38 : Nat) "NoFartherThanAThrow$World" "tired" "[I") ∈ lw_all := lw_g (lw_at lw_m1 136 rfl) rfl
theorem q216 : (Jvm.Cond.fieldLink "NoFartherThanAThrow$World" (41 : Nat) "NoFartherThanAThrow$World" "wantThing" "[I") ∈ lw_all := lw_g (lw_at lw_m1 138 rfl) rfl
theorem q219 : (Jvm.Cond.fieldLink "NoFartherThanAThrow$World" (44 : Nat) "NoFartherThanAThrow$World" "wantStep" "[I") ∈ lw_all := lw_g (lw_at lw_m1 141 rfl) rfl
theorem q222 : (Jvm.Cond.fieldLink "NoFartherThanAThrow$World" (47 : Nat) "NoFartherThanAThrow$World" "wantWorth" "[I") ∈ lw_all := lw_g (lw_at lw_m1 144 rfl) rfl
theorem q225 : (Jvm.Cond.lays "NoFartherThanAThrow$World" "NoFartherThanAThrow$World" "longWay" "I") ∈ lw_all := lw_g (lw_at lw_m1 147 rfl) rfl
theorem q226 : (Jvm.Cond.soleField "NoFartherThanAThrow$World" "longWay") ∈ lw_all := lw_g (lw_at lw_m1 148 rfl) rfl
theorem q227 : (Jvm.Cond.lays "NoFartherThanAThrow$World" "NoFartherThanAThrow$World" "from" "I") ∈ lw_all := lw_g (lw_at lw_m1 149 rfl) rfl
theorem q228 : (Jvm.Cond.soleField "NoFartherThanAThrow$World" "from") ∈ lw_all := lw_g (lw_at lw_m1 150 rfl) rfl
theorem q229 : (Jvm.Cond.lays "NoFartherThanAThrow$World" "NoFartherThanAThrow$World" "to" "I") ∈ lw_all := lw_g (lw_at lw_m1 151 rfl) rfl
theorem q230 : (Jvm.Cond.soleField "NoFartherThanAThrow$World" "to") ∈ lw_all := lw_g (lw_at lw_m1 152 rfl) rfl
theorem q231 : (Jvm.Cond.lays "NoFartherThanAThrow$World" "NoFartherThanAThrow$World" "wind" "I") ∈ lw_all := lw_g (lw_at lw_m1 153 rfl) rfl
theorem q232 : (Jvm.Cond.soleField "NoFartherThanAThrow$World" "wind") ∈ lw_all := lw_g (lw_at lw_m1 154 rfl) rfl
theorem q233 : (Jvm.Cond.lays "NoFartherThanAThrow$World" "NoFartherThanAThrow$World" "thingsThere" "I") ∈ lw_all := lw_g (lw_at lw_m1 155 rfl) rfl
theorem q234 : (Jvm.Cond.soleField "NoFartherThanAThrow$World" "thingsThere") ∈ lw_all := lw_g (lw_at lw_m1 156 rfl) rfl
theorem q235 : (Jvm.Cond.lays "NoFartherThanAThrow$World" "NoFartherThanAThrow$World" "peopleThere" "I") ∈ lw_all := lw_g (lw_at lw_m1 157 rfl) rfl
theorem q236 : (Jvm.Cond.soleField "NoFartherThanAThrow$World" "peopleThere") ∈ lw_all := lw_g (lw_at lw_m1 158 rfl) rfl
theorem q237 : (Jvm.Cond.lays "NoFartherThanAThrow$World" "NoFartherThanAThrow$World" "wantsThere" "I") ∈ lw_all := lw_g (lw_at lw_m1 159 rfl) rfl
theorem q238 : (Jvm.Cond.soleField "NoFartherThanAThrow$World" "wantsThere") ∈ lw_all := lw_g (lw_at lw_m1 160 rfl) rfl
theorem q239 : (Jvm.Cond.lays "NoFartherThanAThrow$World" "NoFartherThanAThrow$World" "gone" "I") ∈ lw_all := lw_g (lw_at lw_m1 161 rfl) rfl
theorem q240 : (Jvm.Cond.soleField "NoFartherThanAThrow$World" "gone") ∈ lw_all := lw_g (lw_at lw_m1 162 rfl) rfl
theorem q241 : (Jvm.Cond.lays "NoFartherThanAThrow$World" "NoFartherThanAThrow$World" "seed" "I") ∈ lw_all := lw_g (lw_at lw_m1 163 rfl) rfl
theorem q242 : (Jvm.Cond.soleField "NoFartherThanAThrow$World" "seed") ∈ lw_all := lw_g (lw_at lw_m1 164 rfl) rfl
theorem q243 : (Jvm.Cond.laysFinal "NoFartherThanAThrow$World" "NoFartherThanAThrow$World" "things" "[LNoFartherThanAThrow$Thing;") ∈ lw_all := lw_g (lw_at lw_m1 165 rfl) rfl
theorem q244 : (Jvm.Cond.soleField "NoFartherThanAThrow$World" "things") ∈ lw_all := lw_g (lw_at lw_m1 166 rfl) rfl
theorem q245 : (Jvm.Cond.laysFinal "NoFartherThanAThrow$World" "NoFartherThanAThrow$World" "step" "[I") ∈ lw_all := lw_g (lw_at lw_m1 167 rfl) rfl
theorem q246 : (Jvm.Cond.soleField "NoFartherThanAThrow$World" "step") ∈ lw_all := lw_g (lw_at lw_m1 168 rfl) rfl
theorem q247 : (Jvm.Cond.laysFinal "NoFartherThanAThrow$World" "NoFartherThanAThrow$World" "last" "[I") ∈ lw_all := lw_g (lw_at lw_m1 169 rfl) rfl
theorem q248 : (Jvm.Cond.soleField "NoFartherThanAThrow$World" "last") ∈ lw_all := lw_g (lw_at lw_m1 170 rfl) rfl
theorem q249 : (Jvm.Cond.laysFinal "NoFartherThanAThrow$World" "NoFartherThanAThrow$World" "broken" "[Z") ∈ lw_all := lw_g (lw_at lw_m1 171 rfl) rfl
theorem q250 : (Jvm.Cond.soleField "NoFartherThanAThrow$World" "broken") ∈ lw_all := lw_g (lw_at lw_m1 172 rfl) rfl
theorem q251 : (Jvm.Cond.laysFinal "NoFartherThanAThrow$World" "NoFartherThanAThrow$World" "strength" "[I") ∈ lw_all := lw_g (lw_at lw_m1 173 rfl) rfl
theorem q252 : (Jvm.Cond.soleField "NoFartherThanAThrow$World" "strength") ∈ lw_all := lw_g (lw_at lw_m1 174 rfl) rfl
theorem q253 : (Jvm.Cond.laysFinal "NoFartherThanAThrow$World" "NoFartherThanAThrow$World" "tired" "[I") ∈ lw_all := lw_g (lw_at lw_m1 175 rfl) rfl
theorem q254 : (Jvm.Cond.soleField "NoFartherThanAThrow$World" "tired") ∈ lw_all := lw_g (lw_at lw_m1 176 rfl) rfl
theorem q255 : (Jvm.Cond.laysFinal "NoFartherThanAThrow$World" "NoFartherThanAThrow$World" "wantThing" "[I") ∈ lw_all := lw_g (lw_at lw_m1 177 rfl) rfl
theorem q256 : (Jvm.Cond.soleField "NoFartherThanAThrow$World" "wantThing") ∈ lw_all := lw_g (lw_at lw_m1 178 rfl) rfl
theorem q257 : (Jvm.Cond.laysFinal "NoFartherThanAThrow$World" "NoFartherThanAThrow$World" "wantStep" "[I") ∈ lw_all := lw_g (lw_at lw_m1 179 rfl) rfl
theorem q258 : (Jvm.Cond.soleField "NoFartherThanAThrow$World" "wantStep") ∈ lw_all := lw_g (lw_at lw_m1 180 rfl) rfl
theorem q259 : (Jvm.Cond.laysFinal "NoFartherThanAThrow$World" "NoFartherThanAThrow$World" "wantWorth" "[I") ∈ lw_all := lw_g (lw_at lw_m1 181 rfl) rfl
theorem q260 : (Jvm.Cond.soleField "NoFartherThanAThrow$World" "wantWorth") ∈ lw_all := lw_g (lw_at lw_m1 182 rfl) rfl
theorem q261 : (Jvm.Cond.superclass "NoFartherThanAThrow$World" "java/lang/Object") ∈ lw_all := lw_g (lw_at lw_m1 183 rfl) rfl
theorem q706 : (Jvm.Cond.instanceMethod ({ cls := "NoFartherThanAThrow$World", name := "isStep", desc := "(I)Z" } : Jvm.MethodName)) ∈ lw_all := lw_g (lw_at lw_m3 148 rfl) rfl
theorem q707 : (Jvm.Cond.selects "NoFartherThanAThrow$World" ({ cls := "NoFartherThanAThrow$World", name := "isStep", desc := "(I)Z" } : Jvm.MethodName) ({ cls := "NoFartherThanAThrow$World", name := "isStep", desc := "(I)Z" } : Jvm.MethodName)) ∈ lw_all := lw_g (lw_at lw_m3 149 rfl) rfl
theorem q708 : (Jvm.Cond.code ({ cls := "NoFartherThanAThrow$World", name := "isStep", desc := "(I)Z" } : Jvm.MethodName) prog_20_method_4_code (2 : Nat) (Option.some Jvm.ClassFile.FieldType.boolean)) ∈ lw_all := lw_g (lw_at lw_m3 150 rfl) rfl
theorem q709 : (Jvm.Cond.methodLink "NoFartherThanAThrow$World" (78 : Nat) ({ cls := "NoFartherThanAThrow", name := "in", desc := "(JJJ)Z" } : Jvm.MethodName)) ∈ lw_all := lw_g (lw_at lw_m3 151 rfl) rfl
theorem q710 : (Jvm.Cond.methodLink "NoFartherThanAThrow$World" (82 : Nat) ({ cls := "NoFartherThanAThrow$World", name := "isWet", desc := "(I)Z" } : Jvm.MethodName)) ∈ lw_all := lw_g (lw_at lw_m3 152 rfl) rfl
theorem q711 : (Jvm.Cond.instanceMethod ({ cls := "NoFartherThanAThrow$World", name := "isWet", desc := "(I)Z" } : Jvm.MethodName)) ∈ lw_all := lw_g (lw_at lw_m3 153 rfl) rfl
theorem q712 : (Jvm.Cond.selects "NoFartherThanAThrow$World" ({ cls := "NoFartherThanAThrow$World", name := "isWet", desc := "(I)Z" } : Jvm.MethodName) ({ cls := "NoFartherThanAThrow$World", name := "isWet", desc := "(I)Z" } : Jvm.MethodName)) ∈ lw_all := lw_g (lw_at lw_m3 154 rfl) rfl
theorem q713 : (Jvm.Cond.code ({ cls := "NoFartherThanAThrow$World", name := "isWet", desc := "(I)Z" } : Jvm.MethodName) prog_20_method_3_code (2 : Nat) (Option.some Jvm.ClassFile.FieldType.boolean)) ∈ lw_all := lw_g (lw_at lw_m3 155 rfl) rfl
theorem q715 : (Jvm.Cond.instanceMethod ({ cls := "NoFartherThanAThrow$World", name := "addThing", desc := "(IIIII)V" } : Jvm.MethodName)) ∈ lw_all := lw_g (lw_at lw_m3 157 rfl) rfl
theorem q716 : (Jvm.Cond.selects "NoFartherThanAThrow$World" ({ cls := "NoFartherThanAThrow$World", name := "addThing", desc := "(IIIII)V" } : Jvm.MethodName) ({ cls := "NoFartherThanAThrow$World", name := "addThing", desc := "(IIIII)V" } : Jvm.MethodName)) ∈ lw_all := lw_g (lw_at lw_m3 158 rfl) rfl
theorem q717 : (Jvm.Cond.code ({ cls := "NoFartherThanAThrow$World", name := "addThing", desc := "(IIIII)V" } : Jvm.MethodName) prog_20_method_8_code (6 : Nat) (Option.none : Option Jvm.ClassFile.FieldType)) ∈ lw_all := lw_g (lw_at lw_m3 159 rfl) rfl
theorem q718 : (Jvm.Cond.methodLink "NoFartherThanAThrow$World" (96 : Nat) ({ cls := "NoFartherThanAThrow$World", name := "putThing", desc := "(IIIIII)V" } : Jvm.MethodName)) ∈ lw_all := lw_g (lw_at lw_m3 160 rfl) rfl
theorem q719 : (Jvm.Cond.instanceMethod ({ cls := "NoFartherThanAThrow$World", name := "putThing", desc := "(IIIIII)V" } : Jvm.MethodName)) ∈ lw_all := lw_g (lw_at lw_m3 161 rfl) rfl
theorem q720 : (Jvm.Cond.selects "NoFartherThanAThrow$World" ({ cls := "NoFartherThanAThrow$World", name := "putThing", desc := "(IIIIII)V" } : Jvm.MethodName) ({ cls := "NoFartherThanAThrow$World", name := "putThing", desc := "(IIIIII)V" } : Jvm.MethodName)) ∈ lw_all := lw_g (lw_at lw_m3 162 rfl) rfl
theorem q721 : (Jvm.Cond.code ({ cls := "NoFartherThanAThrow$World", name := "putThing", desc := "(IIIIII)V" } : Jvm.MethodName) prog_20_method_7_code (7 : Nat) (Option.none : Option Jvm.ClassFile.FieldType)) ∈ lw_all := lw_g (lw_at lw_m3 163 rfl) rfl
theorem q722 : (Jvm.Cond.methodLink "NoFartherThanAThrow$World" (92 : Nat) ({ cls := "NoFartherThanAThrow", name := "thingOfKind", desc := "(IIII)LNoFartherThanAThrow$Thing;" } : Jvm.MethodName)) ∈ lw_all := lw_g (lw_at lw_m3 164 rfl) rfl
theorem q745 : (Jvm.Cond.fieldLink "NoFartherThanAThrow$World" (108 : Nat) "NoFartherThanAThrow$Thing" "weight" "I") ∈ lw_all := lw_g (lw_at lw_m3 187 rfl) rfl
theorem q823 : (Jvm.Cond.instanceMethod ({ cls := "NoFartherThanAThrow$World", name := "addMan", desc := "(I)V" } : Jvm.MethodName)) ∈ lw_all := lw_g (lw_at lw_m4 25 rfl) rfl
theorem q824 : (Jvm.Cond.selects "NoFartherThanAThrow$World" ({ cls := "NoFartherThanAThrow$World", name := "addMan", desc := "(I)V" } : Jvm.MethodName) ({ cls := "NoFartherThanAThrow$World", name := "addMan", desc := "(I)V" } : Jvm.MethodName)) ∈ lw_all := lw_g (lw_at lw_m4 26 rfl) rfl
theorem q825 : (Jvm.Cond.code ({ cls := "NoFartherThanAThrow$World", name := "addMan", desc := "(I)V" } : Jvm.MethodName) prog_20_method_9_code (2 : Nat) (Option.none : Option Jvm.ClassFile.FieldType)) ∈ lw_all := lw_g (lw_at lw_m4 27 rfl) rfl
theorem q859 : (Jvm.Cond.instanceMethod ({ cls := "NoFartherThanAThrow$World", name := "addWant", desc := "(III)V" } : Jvm.MethodName)) ∈ lw_all := lw_g (lw_at lw_m4 61 rfl) rfl
theorem q860 : (Jvm.Cond.selects "NoFartherThanAThrow$World" ({ cls := "NoFartherThanAThrow$World", name := "addWant", desc := "(III)V" } : Jvm.MethodName) ({ cls := "NoFartherThanAThrow$World", name := "addWant", desc := "(III)V" } : Jvm.MethodName)) ∈ lw_all := lw_g (lw_at lw_m4 62 rfl) rfl
theorem q861 : (Jvm.Cond.code ({ cls := "NoFartherThanAThrow$World", name := "addWant", desc := "(III)V" } : Jvm.MethodName) prog_20_method_10_code (4 : Nat) (Option.none : Option Jvm.ClassFile.FieldType)) ∈ lw_all := lw_g (lw_at lw_m4 63 rfl) rfl
theorem q867 : (Jvm.Cond.instanceMethod ({ cls := "NoFartherThanAThrow$World", name := "farthest", desc := "()I" } : Jvm.MethodName)) ∈ lw_all := lw_g (lw_at lw_m4 69 rfl) rfl
theorem q868 : (Jvm.Cond.selects "NoFartherThanAThrow$World" ({ cls := "NoFartherThanAThrow$World", name := "farthest", desc := "()I" } : Jvm.MethodName) ({ cls := "NoFartherThanAThrow$World", name := "farthest", desc := "()I" } : Jvm.MethodName)) ∈ lw_all := lw_g (lw_at lw_m4 70 rfl) rfl
theorem q869 : (Jvm.Cond.code ({ cls := "NoFartherThanAThrow$World", name := "farthest", desc := "()I" } : Jvm.MethodName) prog_20_method_5_code (3 : Nat) (Option.some Jvm.ClassFile.FieldType.int)) ∈ lw_all := lw_g (lw_at lw_m4 71 rfl) rfl
theorem q870 : (Jvm.Cond.methodLink "NoFartherThanAThrow$World" (86 : Nat) ({ cls := "java/lang/Math", name := "max", desc := "(II)I" } : Jvm.MethodName)) ∈ lw_all := lw_g (lw_at lw_m4 72 rfl) rfl
theorem q877 : (Jvm.Cond.instanceMethod ({ cls := "NoFartherThanAThrow$World", name := "mayFlow", desc := "(II)Z" } : Jvm.MethodName)) ∈ lw_all := lw_g (lw_at lw_m4 79 rfl) rfl
theorem q878 : (Jvm.Cond.selects "NoFartherThanAThrow$World" ({ cls := "NoFartherThanAThrow$World", name := "mayFlow", desc := "(II)Z" } : Jvm.MethodName) ({ cls := "NoFartherThanAThrow$World", name := "mayFlow", desc := "(II)Z" } : Jvm.MethodName)) ∈ lw_all := lw_g (lw_at lw_m4 80 rfl) rfl
theorem q879 : (Jvm.Cond.code ({ cls := "NoFartherThanAThrow$World", name := "mayFlow", desc := "(II)Z" } : Jvm.MethodName) prog_20_method_6_code (5 : Nat) (Option.some Jvm.ClassFile.FieldType.boolean)) ∈ lw_all := lw_g (lw_at lw_m4 81 rfl) rfl
theorem q929 : (Jvm.Cond.instanceMethod ({ cls := "NoFartherThanAThrow$World", name := "again", desc := "()LNoFartherThanAThrow$World;" } : Jvm.MethodName)) ∈ lw_all := lw_g (lw_at lw_m4 131 rfl) rfl
theorem q930 : (Jvm.Cond.selects "NoFartherThanAThrow$World" ({ cls := "NoFartherThanAThrow$World", name := "again", desc := "()LNoFartherThanAThrow$World;" } : Jvm.MethodName) ({ cls := "NoFartherThanAThrow$World", name := "again", desc := "()LNoFartherThanAThrow$World;" } : Jvm.MethodName)) ∈ lw_all := lw_g (lw_at lw_m4 132 rfl) rfl
theorem q931 : (Jvm.Cond.code ({ cls := "NoFartherThanAThrow$World", name := "again", desc := "()LNoFartherThanAThrow$World;" } : Jvm.MethodName) prog_20_method_2_code (2 : Nat) (Option.some (Jvm.ClassFile.FieldType.object "NoFartherThanAThrow$World"))) ∈ lw_all := lw_g (lw_at lw_m4 133 rfl) rfl
theorem q932 : (Jvm.Cond.classLink "NoFartherThanAThrow$World" (10 : Nat) "NoFartherThanAThrow$World") ∈ lw_all := lw_g (lw_at lw_m4 134 rfl) rfl
theorem q933 : (Jvm.Cond.methodLink "NoFartherThanAThrow$World" (50 : Nat) ({ cls := "NoFartherThanAThrow$World", name := "<init>", desc := "()V" } : Jvm.MethodName)) ∈ lw_all := lw_g (lw_at lw_m4 135 rfl) rfl
theorem q934 : (Jvm.Cond.methodLink "NoFartherThanAThrow$World" (72 : Nat) ({ cls := "java/lang/System", name := "arraycopy", desc := "(Ljava/lang/Object;ILjava/lang/Object;II)V" } : Jvm.MethodName)) ∈ lw_all := lw_g (lw_at lw_m4 136 rfl) rfl
theorem q1091 : (Jvm.Cond.instanceMethod ({ cls := "NoFartherThanAThrow$World", name := "far", desc := "(II)I" } : Jvm.MethodName)) ∈ lw_all := lw_g (lw_at lw_m5 53 rfl) rfl
theorem q1092 : (Jvm.Cond.selects "NoFartherThanAThrow$World" ({ cls := "NoFartherThanAThrow$World", name := "far", desc := "(II)I" } : Jvm.MethodName) ({ cls := "NoFartherThanAThrow$World", name := "far", desc := "(II)I" } : Jvm.MethodName)) ∈ lw_all := lw_g (lw_at lw_m5 54 rfl) rfl
theorem q1093 : (Jvm.Cond.code ({ cls := "NoFartherThanAThrow$World", name := "far", desc := "(II)I" } : Jvm.MethodName) prog_20_method_11_code (3 : Nat) (Option.some Jvm.ClassFile.FieldType.int)) ∈ lw_all := lw_g (lw_at lw_m5 55 rfl) rfl
theorem q1094 : (Jvm.Cond.methodLink "NoFartherThanAThrow$World" (100 : Nat) ({ cls := "NoFartherThanAThrow$Thing", name := "far", desc := "(II)I" } : Jvm.MethodName)) ∈ lw_all := lw_g (lw_at lw_m5 56 rfl) rfl
theorem q1116 : (Jvm.Cond.instanceMethod ({ cls := "NoFartherThanAThrow$World", name := "wrong", desc := "(III)I" } : Jvm.MethodName)) ∈ lw_all := lw_g (lw_at lw_m5 78 rfl) rfl
theorem q1117 : (Jvm.Cond.selects "NoFartherThanAThrow$World" ({ cls := "NoFartherThanAThrow$World", name := "wrong", desc := "(III)I" } : Jvm.MethodName) ({ cls := "NoFartherThanAThrow$World", name := "wrong", desc := "(III)I" } : Jvm.MethodName)) ∈ lw_all := lw_g (lw_at lw_m5 79 rfl) rfl
theorem q1118 : (Jvm.Cond.code ({ cls := "NoFartherThanAThrow$World", name := "wrong", desc := "(III)I" } : Jvm.MethodName) prog_20_method_12_code (4 : Nat) (Option.some Jvm.ClassFile.FieldType.int)) ∈ lw_all := lw_g (lw_at lw_m5 80 rfl) rfl
theorem q1119 : (Jvm.Cond.methodLink "NoFartherThanAThrow$World" (103 : Nat) ({ cls := "java/lang/Math", name := "abs", desc := "(I)I" } : Jvm.MethodName)) ∈ lw_all := lw_g (lw_at lw_m5 81 rfl) rfl
theorem q1122 : (Jvm.Cond.methodLink "NoFartherThanAThrow$World" (107 : Nat) ({ cls := "NoFartherThanAThrow$World", name := "far", desc := "(II)I" } : Jvm.MethodName)) ∈ lw_all := lw_g (lw_at lw_m5 84 rfl) rfl
theorem q1128 : (Jvm.Cond.instanceMethod ({ cls := "NoFartherThanAThrow$World", name := "carry", desc := "(III)V" } : Jvm.MethodName)) ∈ lw_all := lw_g (lw_at lw_m5 90 rfl) rfl
theorem q1129 : (Jvm.Cond.selects "NoFartherThanAThrow$World" ({ cls := "NoFartherThanAThrow$World", name := "carry", desc := "(III)V" } : Jvm.MethodName) ({ cls := "NoFartherThanAThrow$World", name := "carry", desc := "(III)V" } : Jvm.MethodName)) ∈ lw_all := lw_g (lw_at lw_m5 91 rfl) rfl
theorem q1130 : (Jvm.Cond.code ({ cls := "NoFartherThanAThrow$World", name := "carry", desc := "(III)V" } : Jvm.MethodName) prog_20_method_14_code (4 : Nat) (Option.none : Option Jvm.ClassFile.FieldType)) ∈ lw_all := lw_g (lw_at lw_m5 92 rfl) rfl
theorem q1131 : (Jvm.Cond.methodLink "NoFartherThanAThrow$World" (114 : Nat) ({ cls := "NoFartherThanAThrow$World", name := "tires", desc := "(II)V" } : Jvm.MethodName)) ∈ lw_all := lw_g (lw_at lw_m5 93 rfl) rfl
theorem q1132 : (Jvm.Cond.instanceMethod ({ cls := "NoFartherThanAThrow$World", name := "tires", desc := "(II)V" } : Jvm.MethodName)) ∈ lw_all := lw_g (lw_at lw_m5 94 rfl) rfl
theorem q1133 : (Jvm.Cond.selects "NoFartherThanAThrow$World" ({ cls := "NoFartherThanAThrow$World", name := "tires", desc := "(II)V" } : Jvm.MethodName) ({ cls := "NoFartherThanAThrow$World", name := "tires", desc := "(II)V" } : Jvm.MethodName)) ∈ lw_all := lw_g (lw_at lw_m5 95 rfl) rfl
theorem q1134 : (Jvm.Cond.code ({ cls := "NoFartherThanAThrow$World", name := "tires", desc := "(II)V" } : Jvm.MethodName) prog_20_method_13_code (3 : Nat) (Option.none : Option Jvm.ClassFile.FieldType)) ∈ lw_all := lw_g (lw_at lw_m5 96 rfl) rfl
theorem q1135 : (Jvm.Cond.methodLink "NoFartherThanAThrow$World" (111 : Nat) ({ cls := "java/lang/Math", name := "min", desc := "(II)I" } : Jvm.MethodName)) ∈ lw_all := lw_g (lw_at lw_m5 97 rfl) rfl
theorem q1159 : (Jvm.Cond.instanceMethod ({ cls := "NoFartherThanAThrow$World", name := "brings", desc := "(III)I" } : Jvm.MethodName)) ∈ lw_all := lw_g (lw_at lw_m5 121 rfl) rfl
theorem q1160 : (Jvm.Cond.selects "NoFartherThanAThrow$World" ({ cls := "NoFartherThanAThrow$World", name := "brings", desc := "(III)I" } : Jvm.MethodName) ({ cls := "NoFartherThanAThrow$World", name := "brings", desc := "(III)I" } : Jvm.MethodName)) ∈ lw_all := lw_g (lw_at lw_m5 122 rfl) rfl
theorem q1161 : (Jvm.Cond.code ({ cls := "NoFartherThanAThrow$World", name := "brings", desc := "(III)I" } : Jvm.MethodName) prog_20_method_15_code (5 : Nat) (Option.some Jvm.ClassFile.FieldType.int)) ∈ lw_all := lw_g (lw_at lw_m5 123 rfl) rfl
theorem q1254 : (Jvm.Cond.instanceMethod ({ cls := "NoFartherThanAThrow$World", name := "mayThrow", desc := "(III)Z" } : Jvm.MethodName)) ∈ lw_all := lw_g (lw_at lw_m5 216 rfl) rfl
theorem q1255 : (Jvm.Cond.selects "NoFartherThanAThrow$World" ({ cls := "NoFartherThanAThrow$World", name := "mayThrow", desc := "(III)Z" } : Jvm.MethodName) ({ cls := "NoFartherThanAThrow$World", name := "mayThrow", desc := "(III)Z" } : Jvm.MethodName)) ∈ lw_all := lw_g (lw_at lw_m5 217 rfl) rfl
theorem q1256 : (Jvm.Cond.code ({ cls := "NoFartherThanAThrow$World", name := "mayThrow", desc := "(III)Z" } : Jvm.MethodName) prog_20_method_16_code (4 : Nat) (Option.some Jvm.ClassFile.FieldType.boolean)) ∈ lw_all := lw_g (lw_at lw_m5 218 rfl) rfl
theorem q1257 : (Jvm.Cond.methodLink "NoFartherThanAThrow$World" (118 : Nat) ({ cls := "NoFartherThanAThrow$World", name := "isStep", desc := "(I)Z" } : Jvm.MethodName)) ∈ lw_all := lw_g (lw_at lw_m5 219 rfl) rfl
theorem q1267 : (Jvm.Cond.instanceMethod ({ cls := "NoFartherThanAThrow$World", name := "draw", desc := "(I)I" } : Jvm.MethodName)) ∈ lw_all := lw_g (lw_at lw_m5 229 rfl) rfl
theorem q1268 : (Jvm.Cond.selects "NoFartherThanAThrow$World" ({ cls := "NoFartherThanAThrow$World", name := "draw", desc := "(I)I" } : Jvm.MethodName) ({ cls := "NoFartherThanAThrow$World", name := "draw", desc := "(I)I" } : Jvm.MethodName)) ∈ lw_all := lw_g (lw_at lw_m5 230 rfl) rfl
theorem q1269 : (Jvm.Cond.code ({ cls := "NoFartherThanAThrow$World", name := "draw", desc := "(I)I" } : Jvm.MethodName) prog_20_method_17_code (2 : Nat) (Option.some Jvm.ClassFile.FieldType.int)) ∈ lw_all := lw_g (lw_at lw_m5 231 rfl) rfl
theorem q1270 : (Jvm.Cond.constant "NoFartherThanAThrow$World" (121 : Nat) (1103515245 : Int32)) ∈ lw_all := lw_g (lw_at lw_m5 232 rfl) rfl
theorem in_X3 : ∀ w ∈ wsX30, w ∈ lw_all := lw_in wsX30 [225, 227, 229, 231, 233, 235, 237, 239, 241, 243, 245, 247, 249, 251, 253, 255, 257, 259] (by decide +kernel) (by decide +kernel)
/-! NoFartherThanAThrow$Shelf -/
set_option maxRecDepth 100000
def RX4 : String := "NoFartherThanAThrow$Shelf"
def TX4 : u_T := fun k => match k with
  | _ => ("NoFartherThanAThrow$Shelf", "held", "Ljava/lang/Object;", false)
def tyX4 : Nat → FieldType := fun k => match k with
  | _ => .object "java/lang/Object"
abbrev wsX40 : List Cond := u_ws RX4 TX4 1
theorem nmX4 : ∀ a, a < 1 → ∀ b, b < 1 → a ≠ b → (TX4 a).2.1 ≠ (TX4 b).2.1 := by decide +kernel
theorem tyX4_ok : ∀ k, k < 1 → parseFieldDescriptor (TX4 k).2.2.1 = some (tyX4 k) := by decide +kernel
abbrev cX4_init : ByteArray := prog_16_method_1_code
def yX4_init : MethodName := ⟨RX4, "<init>", "()V"⟩
theorem dX4_init_0 : decode cX4_init 0 = .ok (.aload_n 0, 1) := by decide +kernel
theorem dX4_init_1 : decode cX4_init 1 = .ok (.invokespecial 3, 3) := by decide +kernel
theorem dX4_init_4 : decode cX4_init 4 = .ok (.return_, 1) := by decide +kernel
abbrev cX4_row : ByteArray := prog_16_method_2_code
def yX4_row : MethodName := ⟨RX4, "row", "()LNoFartherThanAThrow$Row;"⟩
def dkwX4_row_1 : List UInt8 := [76, 187, 0, 23, 89, 16, 254, 183, 0, 25, 191]
abbrev dktX4_row_1 : List UInt8 := dkwX4_row_1 ++ []
def dkwX4_row_0 : List UInt8 := [42, 180, 0, 9, 192, 0, 15, 76, 43, 198, 0, 7, 4, 167, 0, 4, 3, 16, 253, 184, 0, 17, 43, 176]
abbrev dktX4_row_0 : List UInt8 := dkwX4_row_0 ++ dktX4_row_1
theorem dksX4_row_0 : cX4_row.data.toList.drop 0 = dktX4_row_0 := by decide +kernel
theorem dksX4_row_1 : cX4_row.data.toList.drop 24 = dktX4_row_1 := dk_seg dksX4_row_0 24 rfl rfl
theorem dX4_row_0 : decode cX4_row 0 = .ok (.aload_n 0, 1) := dk_42 (dk_at dksX4_row_0 0 rfl rfl)
theorem dX4_row_1 : decode cX4_row 1 = .ok (.getfield 9, 3) := dk_180 0 9 (dk_at dksX4_row_0 1 rfl rfl)
theorem dX4_row_4 : decode cX4_row 4 = .ok (.checkcast 15, 3) := dk_192 0 15 (dk_at dksX4_row_0 4 rfl rfl)
theorem dX4_row_7 : decode cX4_row 7 = .ok (.astore_n 1, 1) := dk_76 (dk_at dksX4_row_0 7 rfl rfl)
theorem dX4_row_8 : decode cX4_row 8 = .ok (.aload_n 1, 1) := dk_43 (dk_at dksX4_row_0 8 rfl rfl)
theorem dX4_row_9 : decode cX4_row 9 = .ok (.ifnull 7, 3) := dk_198 0 7 (dk_at dksX4_row_0 9 rfl rfl)
theorem dX4_row_12 : decode cX4_row 12 = .ok (.iconst 1, 1) := dk_4 (dk_at dksX4_row_0 12 rfl rfl)
theorem dX4_row_13 : decode cX4_row 13 = .ok (.goto 4, 3) := dk_167 0 4 (dk_at dksX4_row_0 13 rfl rfl)
theorem dX4_row_16 : decode cX4_row 16 = .ok (.iconst 0, 1) := dk_3 (dk_at dksX4_row_0 16 rfl rfl)
theorem dX4_row_17 : decode cX4_row 17 = .ok (.bipush (-3), 2) := dk_16 253 (dk_at dksX4_row_0 17 rfl rfl)
theorem dX4_row_19 : decode cX4_row 19 = .ok (.invokestatic 17, 3) := dk_184 0 17 (dk_at dksX4_row_0 19 rfl rfl)
theorem dX4_row_22 : decode cX4_row 22 = .ok (.aload_n 1, 1) := dk_43 (dk_at dksX4_row_0 22 rfl rfl)
theorem dX4_row_23 : decode cX4_row 23 = .ok (.areturn, 1) := dk_176 (dk_at dksX4_row_0 23 rfl rfl)
theorem dX4_row_24 : decode cX4_row 24 = .ok (.astore_n 1, 1) := dk_76 (dk_at dksX4_row_1 0 rfl rfl)
theorem dX4_row_25 : decode cX4_row 25 = .ok (.new 23, 3) := dk_187 0 23 (dk_at dksX4_row_1 1 rfl rfl)
theorem dX4_row_28 : decode cX4_row 28 = .ok (.dup, 1) := dk_89 (dk_at dksX4_row_1 4 rfl rfl)
theorem dX4_row_29 : decode cX4_row 29 = .ok (.bipush (-2), 2) := dk_16 254 (dk_at dksX4_row_1 5 rfl rfl)
theorem dX4_row_31 : decode cX4_row 31 = .ok (.invokespecial 25, 3) := dk_183 0 25 (dk_at dksX4_row_1 7 rfl rfl)
theorem dX4_row_34 : decode cX4_row 34 = .ok (.athrow, 1) := dk_191 (dk_at dksX4_row_1 10 rfl rfl)
abbrev cX4_holdsThing : ByteArray := prog_16_method_3_code
def yX4_holdsThing : MethodName := ⟨RX4, "holdsThing", "()Z"⟩
def dkwX4_holdsThing_0 : List UInt8 := [42, 180, 0, 9, 193, 0, 28, 172]
abbrev dktX4_holdsThing_0 : List UInt8 := dkwX4_holdsThing_0 ++ []
theorem dksX4_holdsThing_0 : cX4_holdsThing.data.toList.drop 0 = dktX4_holdsThing_0 := by decide +kernel
theorem dX4_holdsThing_0 : decode cX4_holdsThing 0 = .ok (.aload_n 0, 1) := dk_42 (dk_at dksX4_holdsThing_0 0 rfl rfl)
theorem dX4_holdsThing_1 : decode cX4_holdsThing 1 = .ok (.getfield 9, 3) := dk_180 0 9 (dk_at dksX4_holdsThing_0 1 rfl rfl)
theorem dX4_holdsThing_4 : decode cX4_holdsThing 4 = .ok (.instanceof 28, 3) := dk_193 0 28 (dk_at dksX4_holdsThing_0 4 rfl rfl)
theorem dX4_holdsThing_7 : decode cX4_holdsThing 7 = .ok (.ireturn, 1) := dk_172 (dk_at dksX4_holdsThing_0 7 rfl rfl)
abbrev cX4_says : ByteArray := prog_16_method_4_code
def yX4_says : MethodName := ⟨RX4, "says", "(ILNoFartherThanAThrow$World;)I"⟩
def dkwX4_says_11 : List UInt8 := [89, 16, 254, 183, 0, 25, 191]
abbrev dktX4_says_11 : List UInt8 := dkwX4_says_11 ++ []
def dkwX4_says_10 : List UInt8 := [62, 42, 180, 0, 9, 198, 0, 7, 4, 167, 0, 4, 3, 16, 253, 184, 0, 17, 29, 172, 78, 187, 0, 23]
abbrev dktX4_says_10 : List UInt8 := dkwX4_says_10 ++ dktX4_says_11
def dkwX4_says_9 : List UInt8 := [167, 0, 25, 42, 180, 0, 9, 199, 0, 7, 2, 167, 0, 13, 42, 180, 0, 9, 192, 0, 28, 182, 0, 63]
abbrev dktX4_says_9 : List UInt8 := dkwX4_says_9 ++ dktX4_says_10
def dkwX4_says_8 : List UInt8 := [42, 180, 0, 9, 199, 0, 7, 2, 167, 0, 13, 42, 180, 0, 9, 192, 0, 60, 182, 0, 62, 62]
abbrev dktX4_says_8 : List UInt8 := dkwX4_says_8 ++ dktX4_says_9
def dkwX4_says_7 : List UInt8 := [180, 0, 9, 199, 0, 7, 2, 167, 0, 13, 42, 180, 0, 9, 192, 0, 57, 182, 0, 59, 62, 167, 0, 50]
abbrev dktX4_says_7 : List UInt8 := dkwX4_says_7 ++ dktX4_says_8
def dkwX4_says_6 : List UInt8 := [199, 0, 7, 2, 167, 0, 14, 42, 180, 0, 9, 192, 0, 51, 44, 182, 0, 53, 62, 167, 0, 75, 42]
abbrev dktX4_says_6 : List UInt8 := dkwX4_says_6 ++ dktX4_says_7
def dkwX4_says_5 : List UInt8 := [180, 0, 9, 192, 0, 48, 16, 9, 44, 180, 0, 38, 182, 0, 50, 62, 167, 0, 101, 42, 180, 0, 9]
abbrev dktX4_says_5 : List UInt8 := dkwX4_says_5 ++ dktX4_says_6
def dkwX4_says_4 : List UInt8 := [180, 0, 38, 182, 0, 44, 62, 167, 0, 132, 42, 180, 0, 9, 199, 0, 7, 2, 167, 0, 19, 42]
abbrev dktX4_says_4 : List UInt8 := dkwX4_says_4 ++ dktX4_says_5
def dkwX4_says_3 : List UInt8 := [167, 0, 163, 42, 180, 0, 9, 199, 0, 7, 2, 167, 0, 19, 42, 180, 0, 9, 192, 0, 36, 16, 9, 44]
abbrev dktX4_says_3 : List UInt8 := dkwX4_says_3 ++ dktX4_says_4
def dkwX4_says_2 : List UInt8 := [42, 180, 0, 9, 199, 0, 7, 2, 167, 0, 13, 42, 180, 0, 9, 192, 0, 30, 182, 0, 32, 62]
abbrev dktX4_says_2 : List UInt8 := dkwX4_says_2 ++ dktX4_says_3
def dkwX4_says_1 : List UInt8 := [170, 0, 0, 0, 0, 0, 202, 0, 0, 0, 1, 0, 0, 0, 6, 0, 0, 0, 39, 0, 0, 0, 64, 0, 0, 0, 95, 0, 0, 0, 126, 0, 0, 0, 152, 0, 0, 0, 177]
abbrev dktX4_says_1 : List UInt8 := dkwX4_says_1 ++ dktX4_says_2
def dkwX4_says_0 : List UInt8 := [27]
abbrev dktX4_says_0 : List UInt8 := dkwX4_says_0 ++ dktX4_says_1
theorem dksX4_says_0 : cX4_says.data.toList.drop 0 = dktX4_says_0 := by decide +kernel
theorem dksX4_says_1 : cX4_says.data.toList.drop 1 = dktX4_says_1 := dk_seg dksX4_says_0 1 rfl rfl
theorem dksX4_says_2 : cX4_says.data.toList.drop 40 = dktX4_says_2 := dk_seg dksX4_says_1 39 rfl rfl
theorem dksX4_says_3 : cX4_says.data.toList.drop 62 = dktX4_says_3 := dk_seg dksX4_says_2 22 rfl rfl
theorem dksX4_says_4 : cX4_says.data.toList.drop 86 = dktX4_says_4 := dk_seg dksX4_says_3 24 rfl rfl
theorem dksX4_says_5 : cX4_says.data.toList.drop 108 = dktX4_says_5 := dk_seg dksX4_says_4 22 rfl rfl
theorem dksX4_says_6 : cX4_says.data.toList.drop 131 = dktX4_says_6 := dk_seg dksX4_says_5 23 rfl rfl
theorem dksX4_says_7 : cX4_says.data.toList.drop 154 = dktX4_says_7 := dk_seg dksX4_says_6 23 rfl rfl
theorem dksX4_says_8 : cX4_says.data.toList.drop 178 = dktX4_says_8 := dk_seg dksX4_says_7 24 rfl rfl
theorem dksX4_says_9 : cX4_says.data.toList.drop 200 = dktX4_says_9 := dk_seg dksX4_says_8 22 rfl rfl
theorem dksX4_says_10 : cX4_says.data.toList.drop 224 = dktX4_says_10 := dk_seg dksX4_says_9 24 rfl rfl
theorem dksX4_says_11 : cX4_says.data.toList.drop 248 = dktX4_says_11 := dk_seg dksX4_says_10 24 rfl rfl
theorem dX4_says_0 : decode cX4_says 0 = .ok (.iload_n 1, 1) := dk_27 (dk_at dksX4_says_0 0 rfl rfl)
theorem dX4_says_1 : decode cX4_says 1 = .ok (.tableswitch 202 1 6 #[39, 64, 95, 126, 152, 177], 39) := by decide +kernel
theorem dX4_says_40 : decode cX4_says 40 = .ok (.aload_n 0, 1) := dk_42 (dk_at dksX4_says_2 0 rfl rfl)
theorem dX4_says_41 : decode cX4_says 41 = .ok (.getfield 9, 3) := dk_180 0 9 (dk_at dksX4_says_2 1 rfl rfl)
theorem dX4_says_44 : decode cX4_says 44 = .ok (.ifnonnull 7, 3) := dk_199 0 7 (dk_at dksX4_says_2 4 rfl rfl)
theorem dX4_says_47 : decode cX4_says 47 = .ok (.iconst (-1), 1) := dk_2 (dk_at dksX4_says_2 7 rfl rfl)
theorem dX4_says_48 : decode cX4_says 48 = .ok (.goto 13, 3) := dk_167 0 13 (dk_at dksX4_says_2 8 rfl rfl)
theorem dX4_says_51 : decode cX4_says 51 = .ok (.aload_n 0, 1) := dk_42 (dk_at dksX4_says_2 11 rfl rfl)
theorem dX4_says_52 : decode cX4_says 52 = .ok (.getfield 9, 3) := dk_180 0 9 (dk_at dksX4_says_2 12 rfl rfl)
theorem dX4_says_55 : decode cX4_says 55 = .ok (.checkcast 30, 3) := dk_192 0 30 (dk_at dksX4_says_2 15 rfl rfl)
theorem dX4_says_58 : decode cX4_says 58 = .ok (.invokevirtual 32, 3) := dk_182 0 32 (dk_at dksX4_says_2 18 rfl rfl)
theorem dX4_says_61 : decode cX4_says 61 = .ok (.istore_n 3, 1) := dk_62 (dk_at dksX4_says_2 21 rfl rfl)
theorem dX4_says_62 : decode cX4_says 62 = .ok (.goto 163, 3) := dk_167 0 163 (dk_at dksX4_says_3 0 rfl rfl)
theorem dX4_says_65 : decode cX4_says 65 = .ok (.aload_n 0, 1) := dk_42 (dk_at dksX4_says_3 3 rfl rfl)
theorem dX4_says_66 : decode cX4_says 66 = .ok (.getfield 9, 3) := dk_180 0 9 (dk_at dksX4_says_3 4 rfl rfl)
theorem dX4_says_69 : decode cX4_says 69 = .ok (.ifnonnull 7, 3) := dk_199 0 7 (dk_at dksX4_says_3 7 rfl rfl)
theorem dX4_says_72 : decode cX4_says 72 = .ok (.iconst (-1), 1) := dk_2 (dk_at dksX4_says_3 10 rfl rfl)
theorem dX4_says_73 : decode cX4_says 73 = .ok (.goto 19, 3) := dk_167 0 19 (dk_at dksX4_says_3 11 rfl rfl)
theorem dX4_says_76 : decode cX4_says 76 = .ok (.aload_n 0, 1) := dk_42 (dk_at dksX4_says_3 14 rfl rfl)
theorem dX4_says_77 : decode cX4_says 77 = .ok (.getfield 9, 3) := dk_180 0 9 (dk_at dksX4_says_3 15 rfl rfl)
theorem dX4_says_80 : decode cX4_says 80 = .ok (.checkcast 36, 3) := dk_192 0 36 (dk_at dksX4_says_3 18 rfl rfl)
theorem dX4_says_83 : decode cX4_says 83 = .ok (.bipush 9, 2) := dk_16 9 (dk_at dksX4_says_3 21 rfl rfl)
theorem dX4_says_85 : decode cX4_says 85 = .ok (.aload_n 2, 1) := dk_44 (dk_at dksX4_says_3 23 rfl rfl)
theorem dX4_says_86 : decode cX4_says 86 = .ok (.getfield 38, 3) := dk_180 0 38 (dk_at dksX4_says_4 0 rfl rfl)
theorem dX4_says_89 : decode cX4_says 89 = .ok (.invokevirtual 44, 3) := dk_182 0 44 (dk_at dksX4_says_4 3 rfl rfl)
theorem dX4_says_92 : decode cX4_says 92 = .ok (.istore_n 3, 1) := dk_62 (dk_at dksX4_says_4 6 rfl rfl)
theorem dX4_says_93 : decode cX4_says 93 = .ok (.goto 132, 3) := dk_167 0 132 (dk_at dksX4_says_4 7 rfl rfl)
theorem dX4_says_96 : decode cX4_says 96 = .ok (.aload_n 0, 1) := dk_42 (dk_at dksX4_says_4 10 rfl rfl)
theorem dX4_says_97 : decode cX4_says 97 = .ok (.getfield 9, 3) := dk_180 0 9 (dk_at dksX4_says_4 11 rfl rfl)
theorem dX4_says_100 : decode cX4_says 100 = .ok (.ifnonnull 7, 3) := dk_199 0 7 (dk_at dksX4_says_4 14 rfl rfl)
theorem dX4_says_103 : decode cX4_says 103 = .ok (.iconst (-1), 1) := dk_2 (dk_at dksX4_says_4 17 rfl rfl)
theorem dX4_says_104 : decode cX4_says 104 = .ok (.goto 19, 3) := dk_167 0 19 (dk_at dksX4_says_4 18 rfl rfl)
theorem dX4_says_107 : decode cX4_says 107 = .ok (.aload_n 0, 1) := dk_42 (dk_at dksX4_says_4 21 rfl rfl)
theorem dX4_says_108 : decode cX4_says 108 = .ok (.getfield 9, 3) := dk_180 0 9 (dk_at dksX4_says_5 0 rfl rfl)
theorem dX4_says_111 : decode cX4_says 111 = .ok (.checkcast 48, 3) := dk_192 0 48 (dk_at dksX4_says_5 3 rfl rfl)
theorem dX4_says_114 : decode cX4_says 114 = .ok (.bipush 9, 2) := dk_16 9 (dk_at dksX4_says_5 6 rfl rfl)
theorem dX4_says_116 : decode cX4_says 116 = .ok (.aload_n 2, 1) := dk_44 (dk_at dksX4_says_5 8 rfl rfl)
theorem dX4_says_117 : decode cX4_says 117 = .ok (.getfield 38, 3) := dk_180 0 38 (dk_at dksX4_says_5 9 rfl rfl)
theorem dX4_says_120 : decode cX4_says 120 = .ok (.invokevirtual 50, 3) := dk_182 0 50 (dk_at dksX4_says_5 12 rfl rfl)
theorem dX4_says_123 : decode cX4_says 123 = .ok (.istore_n 3, 1) := dk_62 (dk_at dksX4_says_5 15 rfl rfl)
theorem dX4_says_124 : decode cX4_says 124 = .ok (.goto 101, 3) := dk_167 0 101 (dk_at dksX4_says_5 16 rfl rfl)
theorem dX4_says_127 : decode cX4_says 127 = .ok (.aload_n 0, 1) := dk_42 (dk_at dksX4_says_5 19 rfl rfl)
theorem dX4_says_128 : decode cX4_says 128 = .ok (.getfield 9, 3) := dk_180 0 9 (dk_at dksX4_says_5 20 rfl rfl)
theorem dX4_says_131 : decode cX4_says 131 = .ok (.ifnonnull 7, 3) := dk_199 0 7 (dk_at dksX4_says_6 0 rfl rfl)
theorem dX4_says_134 : decode cX4_says 134 = .ok (.iconst (-1), 1) := dk_2 (dk_at dksX4_says_6 3 rfl rfl)
theorem dX4_says_135 : decode cX4_says 135 = .ok (.goto 14, 3) := dk_167 0 14 (dk_at dksX4_says_6 4 rfl rfl)
theorem dX4_says_138 : decode cX4_says 138 = .ok (.aload_n 0, 1) := dk_42 (dk_at dksX4_says_6 7 rfl rfl)
theorem dX4_says_139 : decode cX4_says 139 = .ok (.getfield 9, 3) := dk_180 0 9 (dk_at dksX4_says_6 8 rfl rfl)
theorem dX4_says_142 : decode cX4_says 142 = .ok (.checkcast 51, 3) := dk_192 0 51 (dk_at dksX4_says_6 11 rfl rfl)
theorem dX4_says_145 : decode cX4_says 145 = .ok (.aload_n 2, 1) := dk_44 (dk_at dksX4_says_6 14 rfl rfl)
theorem dX4_says_146 : decode cX4_says 146 = .ok (.invokevirtual 53, 3) := dk_182 0 53 (dk_at dksX4_says_6 15 rfl rfl)
theorem dX4_says_149 : decode cX4_says 149 = .ok (.istore_n 3, 1) := dk_62 (dk_at dksX4_says_6 18 rfl rfl)
theorem dX4_says_150 : decode cX4_says 150 = .ok (.goto 75, 3) := dk_167 0 75 (dk_at dksX4_says_6 19 rfl rfl)
theorem dX4_says_153 : decode cX4_says 153 = .ok (.aload_n 0, 1) := dk_42 (dk_at dksX4_says_6 22 rfl rfl)
theorem dX4_says_154 : decode cX4_says 154 = .ok (.getfield 9, 3) := dk_180 0 9 (dk_at dksX4_says_7 0 rfl rfl)
theorem dX4_says_157 : decode cX4_says 157 = .ok (.ifnonnull 7, 3) := dk_199 0 7 (dk_at dksX4_says_7 3 rfl rfl)
theorem dX4_says_160 : decode cX4_says 160 = .ok (.iconst (-1), 1) := dk_2 (dk_at dksX4_says_7 6 rfl rfl)
theorem dX4_says_161 : decode cX4_says 161 = .ok (.goto 13, 3) := dk_167 0 13 (dk_at dksX4_says_7 7 rfl rfl)
theorem dX4_says_164 : decode cX4_says 164 = .ok (.aload_n 0, 1) := dk_42 (dk_at dksX4_says_7 10 rfl rfl)
theorem dX4_says_165 : decode cX4_says 165 = .ok (.getfield 9, 3) := dk_180 0 9 (dk_at dksX4_says_7 11 rfl rfl)
theorem dX4_says_168 : decode cX4_says 168 = .ok (.checkcast 57, 3) := dk_192 0 57 (dk_at dksX4_says_7 14 rfl rfl)
theorem dX4_says_171 : decode cX4_says 171 = .ok (.invokevirtual 59, 3) := dk_182 0 59 (dk_at dksX4_says_7 17 rfl rfl)
theorem dX4_says_174 : decode cX4_says 174 = .ok (.istore_n 3, 1) := dk_62 (dk_at dksX4_says_7 20 rfl rfl)
theorem dX4_says_175 : decode cX4_says 175 = .ok (.goto 50, 3) := dk_167 0 50 (dk_at dksX4_says_7 21 rfl rfl)
theorem dX4_says_178 : decode cX4_says 178 = .ok (.aload_n 0, 1) := dk_42 (dk_at dksX4_says_8 0 rfl rfl)
theorem dX4_says_179 : decode cX4_says 179 = .ok (.getfield 9, 3) := dk_180 0 9 (dk_at dksX4_says_8 1 rfl rfl)
theorem dX4_says_182 : decode cX4_says 182 = .ok (.ifnonnull 7, 3) := dk_199 0 7 (dk_at dksX4_says_8 4 rfl rfl)
theorem dX4_says_185 : decode cX4_says 185 = .ok (.iconst (-1), 1) := dk_2 (dk_at dksX4_says_8 7 rfl rfl)
theorem dX4_says_186 : decode cX4_says 186 = .ok (.goto 13, 3) := dk_167 0 13 (dk_at dksX4_says_8 8 rfl rfl)
theorem dX4_says_189 : decode cX4_says 189 = .ok (.aload_n 0, 1) := dk_42 (dk_at dksX4_says_8 11 rfl rfl)
theorem dX4_says_190 : decode cX4_says 190 = .ok (.getfield 9, 3) := dk_180 0 9 (dk_at dksX4_says_8 12 rfl rfl)
theorem dX4_says_193 : decode cX4_says 193 = .ok (.checkcast 60, 3) := dk_192 0 60 (dk_at dksX4_says_8 15 rfl rfl)
theorem dX4_says_196 : decode cX4_says 196 = .ok (.invokevirtual 62, 3) := dk_182 0 62 (dk_at dksX4_says_8 18 rfl rfl)
theorem dX4_says_199 : decode cX4_says 199 = .ok (.istore_n 3, 1) := dk_62 (dk_at dksX4_says_8 21 rfl rfl)
theorem dX4_says_200 : decode cX4_says 200 = .ok (.goto 25, 3) := dk_167 0 25 (dk_at dksX4_says_9 0 rfl rfl)
theorem dX4_says_203 : decode cX4_says 203 = .ok (.aload_n 0, 1) := dk_42 (dk_at dksX4_says_9 3 rfl rfl)
theorem dX4_says_204 : decode cX4_says 204 = .ok (.getfield 9, 3) := dk_180 0 9 (dk_at dksX4_says_9 4 rfl rfl)
theorem dX4_says_207 : decode cX4_says 207 = .ok (.ifnonnull 7, 3) := dk_199 0 7 (dk_at dksX4_says_9 7 rfl rfl)
theorem dX4_says_210 : decode cX4_says 210 = .ok (.iconst (-1), 1) := dk_2 (dk_at dksX4_says_9 10 rfl rfl)
theorem dX4_says_211 : decode cX4_says 211 = .ok (.goto 13, 3) := dk_167 0 13 (dk_at dksX4_says_9 11 rfl rfl)
theorem dX4_says_214 : decode cX4_says 214 = .ok (.aload_n 0, 1) := dk_42 (dk_at dksX4_says_9 14 rfl rfl)
theorem dX4_says_215 : decode cX4_says 215 = .ok (.getfield 9, 3) := dk_180 0 9 (dk_at dksX4_says_9 15 rfl rfl)
theorem dX4_says_218 : decode cX4_says 218 = .ok (.checkcast 28, 3) := dk_192 0 28 (dk_at dksX4_says_9 18 rfl rfl)
theorem dX4_says_221 : decode cX4_says 221 = .ok (.invokevirtual 63, 3) := dk_182 0 63 (dk_at dksX4_says_9 21 rfl rfl)
theorem dX4_says_224 : decode cX4_says 224 = .ok (.istore_n 3, 1) := dk_62 (dk_at dksX4_says_10 0 rfl rfl)
theorem dX4_says_225 : decode cX4_says 225 = .ok (.aload_n 0, 1) := dk_42 (dk_at dksX4_says_10 1 rfl rfl)
theorem dX4_says_226 : decode cX4_says 226 = .ok (.getfield 9, 3) := dk_180 0 9 (dk_at dksX4_says_10 2 rfl rfl)
theorem dX4_says_229 : decode cX4_says 229 = .ok (.ifnull 7, 3) := dk_198 0 7 (dk_at dksX4_says_10 5 rfl rfl)
theorem dX4_says_232 : decode cX4_says 232 = .ok (.iconst 1, 1) := dk_4 (dk_at dksX4_says_10 8 rfl rfl)
theorem dX4_says_233 : decode cX4_says 233 = .ok (.goto 4, 3) := dk_167 0 4 (dk_at dksX4_says_10 9 rfl rfl)
theorem dX4_says_236 : decode cX4_says 236 = .ok (.iconst 0, 1) := dk_3 (dk_at dksX4_says_10 12 rfl rfl)
theorem dX4_says_237 : decode cX4_says 237 = .ok (.bipush (-3), 2) := dk_16 253 (dk_at dksX4_says_10 13 rfl rfl)
theorem dX4_says_239 : decode cX4_says 239 = .ok (.invokestatic 17, 3) := dk_184 0 17 (dk_at dksX4_says_10 15 rfl rfl)
theorem dX4_says_242 : decode cX4_says 242 = .ok (.iload_n 3, 1) := dk_29 (dk_at dksX4_says_10 18 rfl rfl)
theorem dX4_says_243 : decode cX4_says 243 = .ok (.ireturn, 1) := dk_172 (dk_at dksX4_says_10 19 rfl rfl)
theorem dX4_says_244 : decode cX4_says 244 = .ok (.astore_n 3, 1) := dk_78 (dk_at dksX4_says_10 20 rfl rfl)
theorem dX4_says_245 : decode cX4_says 245 = .ok (.new 23, 3) := dk_187 0 23 (dk_at dksX4_says_10 21 rfl rfl)
theorem dX4_says_248 : decode cX4_says 248 = .ok (.dup, 1) := dk_89 (dk_at dksX4_says_11 0 rfl rfl)
theorem dX4_says_249 : decode cX4_says 249 = .ok (.bipush (-2), 2) := dk_16 254 (dk_at dksX4_says_11 1 rfl rfl)
theorem dX4_says_251 : decode cX4_says 251 = .ok (.invokespecial 25, 3) := dk_183 0 25 (dk_at dksX4_says_11 3 rfl rfl)
theorem dX4_says_254 : decode cX4_says 254 = .ok (.athrow, 1) := dk_191 (dk_at dksX4_says_11 6 rfl rfl)
theorem q83 : (Jvm.Cond.initialized "NoFartherThanAThrow$Shelf") ∈ lw_all := lw_g (lw_at lw_m1 5 rfl) rfl
theorem q184 : (Jvm.Cond.fieldLink "NoFartherThanAThrow$Shelf" (38 : Nat) "NoFartherThanAThrow$World" "wind" "I") ∈ lw_all := lw_g (lw_at lw_m1 106 rfl) rfl
theorem q263 : (Jvm.Cond.instantiable "NoFartherThanAThrow$Shelf" (1 : Nat)) ∈ lw_all := lw_g (lw_at lw_m1 185 rfl) rfl
theorem q265 : (Jvm.Cond.instanceMethod ({ cls := "NoFartherThanAThrow$Shelf", name := "<init>", desc := "()V" } : Jvm.MethodName)) ∈ lw_all := lw_g (lw_at lw_m1 187 rfl) rfl
theorem q266 : (Jvm.Cond.code ({ cls := "NoFartherThanAThrow$Shelf", name := "<init>", desc := "()V" } : Jvm.MethodName) prog_16_method_1_code (1 : Nat) (Option.none : Option Jvm.ClassFile.FieldType)) ∈ lw_all := lw_g (lw_at lw_m1 188 rfl) rfl
theorem q267 : (Jvm.Cond.methodLink "NoFartherThanAThrow$Shelf" (3 : Nat) ({ cls := "java/lang/Object", name := "<init>", desc := "()V" } : Jvm.MethodName)) ∈ lw_all := lw_g (lw_at lw_m1 189 rfl) rfl
theorem q268 : (Jvm.Cond.fieldLink "NoFartherThanAThrow$Shelf" (9 : Nat) "NoFartherThanAThrow$Shelf" "held" "Ljava/lang/Object;") ∈ lw_all := lw_g (lw_at lw_m1 190 rfl) rfl
theorem q270 : (Jvm.Cond.lays "NoFartherThanAThrow$Shelf" "NoFartherThanAThrow$Shelf" "held" "Ljava/lang/Object;") ∈ lw_all := lw_g (lw_at lw_m1 192 rfl) rfl
theorem q271 : (Jvm.Cond.soleField "NoFartherThanAThrow$Shelf" "held") ∈ lw_all := lw_g (lw_at lw_m1 193 rfl) rfl
theorem q272 : (Jvm.Cond.superclass "NoFartherThanAThrow$Shelf" "java/lang/Object") ∈ lw_all := lw_g (lw_at lw_m1 194 rfl) rfl
theorem q489 : (Jvm.Cond.instanceMethod ({ cls := "NoFartherThanAThrow$Shelf", name := "row", desc := "()LNoFartherThanAThrow$Row;" } : Jvm.MethodName)) ∈ lw_all := lw_g (lw_at lw_m2 171 rfl) rfl
theorem q490 : (Jvm.Cond.selects "NoFartherThanAThrow$Shelf" ({ cls := "NoFartherThanAThrow$Shelf", name := "row", desc := "()LNoFartherThanAThrow$Row;" } : Jvm.MethodName) ({ cls := "NoFartherThanAThrow$Shelf", name := "row", desc := "()LNoFartherThanAThrow$Row;" } : Jvm.MethodName)) ∈ lw_all := lw_g (lw_at lw_m2 172 rfl) rfl
theorem q491 : (Jvm.Cond.codeWith ({ cls := "NoFartherThanAThrow$Shelf", name := "row", desc := "()LNoFartherThanAThrow$Row;" } : Jvm.MethodName) prog_16_method_2_code (2 : Nat) (Option.some (Jvm.ClassFile.FieldType.object "NoFartherThanAThrow$Row")) [((0 : Nat), (23 : Nat), (24 : Nat), (21 : Nat))]) ∈ lw_all := lw_g (lw_at lw_m2 173 rfl) rfl
theorem q492 : (Jvm.Cond.classLink "NoFartherThanAThrow$Shelf" (21 : Nat) "java/lang/ClassCastException") ∈ lw_all := lw_g (lw_at lw_m2 174 rfl) rfl
theorem q506 : (Jvm.Cond.classLink "NoFartherThanAThrow$Shelf" (15 : Nat) "NoFartherThanAThrow$Row") ∈ lw_all := lw_g (lw_at lw_m2 188 rfl) rfl
theorem q507 : (Jvm.Cond.methodLink "NoFartherThanAThrow$Shelf" (17 : Nat) ({ cls := "NoFartherThanAThrow", name := "need", desc := "(ZI)V" } : Jvm.MethodName)) ∈ lw_all := lw_g (lw_at lw_m2 189 rfl) rfl
theorem q508 : (Jvm.Cond.classLink "NoFartherThanAThrow$Shelf" (23 : Nat) "NoFartherThanAThrow$Refused") ∈ lw_all := lw_g (lw_at lw_m2 190 rfl) rfl
theorem q509 : (Jvm.Cond.methodLink "NoFartherThanAThrow$Shelf" (25 : Nat) ({ cls := "NoFartherThanAThrow$Refused", name := "<init>", desc := "(I)V" } : Jvm.MethodName)) ∈ lw_all := lw_g (lw_at lw_m2 191 rfl) rfl
theorem q531 : (Jvm.Cond.instanceMethod ({ cls := "NoFartherThanAThrow$Shelf", name := "holdsThing", desc := "()Z" } : Jvm.MethodName)) ∈ lw_all := lw_g (lw_at lw_m2 213 rfl) rfl
theorem q532 : (Jvm.Cond.selects "NoFartherThanAThrow$Shelf" ({ cls := "NoFartherThanAThrow$Shelf", name := "holdsThing", desc := "()Z" } : Jvm.MethodName) ({ cls := "NoFartherThanAThrow$Shelf", name := "holdsThing", desc := "()Z" } : Jvm.MethodName)) ∈ lw_all := lw_g (lw_at lw_m2 214 rfl) rfl
theorem q533 : (Jvm.Cond.code ({ cls := "NoFartherThanAThrow$Shelf", name := "holdsThing", desc := "()Z" } : Jvm.MethodName) prog_16_method_3_code (1 : Nat) (Option.some Jvm.ClassFile.FieldType.boolean)) ∈ lw_all := lw_g (lw_at lw_m2 215 rfl) rfl
theorem q534 : (Jvm.Cond.classLink "NoFartherThanAThrow$Shelf" (28 : Nat) "NoFartherThanAThrow$Thing") ∈ lw_all := lw_g (lw_at lw_m2 216 rfl) rfl
theorem q611 : (Jvm.Cond.instanceMethod ({ cls := "NoFartherThanAThrow$Shelf", name := "says", desc := "(ILNoFartherThanAThrow$World;)I" } : Jvm.MethodName)) ∈ lw_all := lw_g (lw_at lw_m3 53 rfl) rfl
theorem q612 : (Jvm.Cond.selects "NoFartherThanAThrow$Shelf" ({ cls := "NoFartherThanAThrow$Shelf", name := "says", desc := "(ILNoFartherThanAThrow$World;)I" } : Jvm.MethodName) ({ cls := "NoFartherThanAThrow$Shelf", name := "says", desc := "(ILNoFartherThanAThrow$World;)I" } : Jvm.MethodName)) ∈ lw_all := lw_g (lw_at lw_m3 54 rfl) rfl
theorem q613 : (Jvm.Cond.codeWith ({ cls := "NoFartherThanAThrow$Shelf", name := "says", desc := "(ILNoFartherThanAThrow$World;)I" } : Jvm.MethodName) prog_16_method_4_code (4 : Nat) (Option.some Jvm.ClassFile.FieldType.int) [((0 : Nat), (243 : Nat), (244 : Nat), (21 : Nat))]) ∈ lw_all := lw_g (lw_at lw_m3 55 rfl) rfl
theorem q614 : (Jvm.Cond.classLink "NoFartherThanAThrow$Shelf" (30 : Nat) "NoFartherThanAThrow$Heavy") ∈ lw_all := lw_g (lw_at lw_m3 56 rfl) rfl
theorem q615 : (Jvm.Cond.methodLink "NoFartherThanAThrow$Shelf" (32 : Nat) ({ cls := "NoFartherThanAThrow$Heavy", name := "more", desc := "()I" } : Jvm.MethodName)) ∈ lw_all := lw_g (lw_at lw_m3 57 rfl) rfl
theorem q622 : (Jvm.Cond.classLink "NoFartherThanAThrow$Shelf" (36 : Nat) "NoFartherThanAThrow$Light") ∈ lw_all := lw_g (lw_at lw_m3 64 rfl) rfl
theorem q623 : (Jvm.Cond.methodLink "NoFartherThanAThrow$Shelf" (44 : Nat) ({ cls := "NoFartherThanAThrow$Light", name := "far", desc := "(II)I" } : Jvm.MethodName)) ∈ lw_all := lw_g (lw_at lw_m3 65 rfl) rfl
theorem q672 : (Jvm.Cond.classLink "NoFartherThanAThrow$Shelf" (48 : Nat) "NoFartherThanAThrow$Feather") ∈ lw_all := lw_g (lw_at lw_m3 114 rfl) rfl
theorem q673 : (Jvm.Cond.methodLink "NoFartherThanAThrow$Shelf" (50 : Nat) ({ cls := "NoFartherThanAThrow$Feather", name := "far", desc := "(II)I" } : Jvm.MethodName)) ∈ lw_all := lw_g (lw_at lw_m3 115 rfl) rfl
theorem q674 : (Jvm.Cond.classLink "NoFartherThanAThrow$Shelf" (51 : Nat) "NoFartherThanAThrow$Glass") ∈ lw_all := lw_g (lw_at lw_m3 116 rfl) rfl
theorem q675 : (Jvm.Cond.methodLink "NoFartherThanAThrow$Shelf" (53 : Nat) ({ cls := "NoFartherThanAThrow$Glass", name := "broken", desc := "(LNoFartherThanAThrow$World;)I" } : Jvm.MethodName)) ∈ lw_all := lw_g (lw_at lw_m3 117 rfl) rfl
theorem q679 : (Jvm.Cond.classLink "NoFartherThanAThrow$Shelf" (57 : Nat) "NoFartherThanAThrow$Parted") ∈ lw_all := lw_g (lw_at lw_m3 121 rfl) rfl
theorem q680 : (Jvm.Cond.methodLink "NoFartherThanAThrow$Shelf" (59 : Nat) ({ cls := "NoFartherThanAThrow$Parted", name := "more", desc := "()I" } : Jvm.MethodName)) ∈ lw_all := lw_g (lw_at lw_m3 122 rfl) rfl
theorem q684 : (Jvm.Cond.classLink "NoFartherThanAThrow$Shelf" (60 : Nat) "NoFartherThanAThrow$Round") ∈ lw_all := lw_g (lw_at lw_m3 126 rfl) rfl
theorem q685 : (Jvm.Cond.methodLink "NoFartherThanAThrow$Shelf" (62 : Nat) ({ cls := "NoFartherThanAThrow$Round", name := "more", desc := "()I" } : Jvm.MethodName)) ∈ lw_all := lw_g (lw_at lw_m3 127 rfl) rfl
theorem q688 : (Jvm.Cond.methodLink "NoFartherThanAThrow$Shelf" (63 : Nat) ({ cls := "NoFartherThanAThrow$Thing", name := "said", desc := "()I" } : Jvm.MethodName)) ∈ lw_all := lw_g (lw_at lw_m3 130 rfl) rfl
theorem in_X4 : ∀ w ∈ wsX40, w ∈ lw_all := lw_in wsX40 [270] (by decide +kernel) (by decide +kernel)
/-! NoFartherThanAThrow$Refused -/
set_option maxRecDepth 100000
def RX6 : String := "NoFartherThanAThrow$Refused"
def TX6 : u_T := fun k => match k with
  | 0 => ("java/lang/Throwable", "cause", "Ljava/lang/Throwable;", false)
  | 1 => ("java/lang/Throwable", "stackTrace", "[Ljava/lang/StackTraceElement;", false)
  | 2 => ("java/lang/Throwable", "suppressedExceptions", "Ljava/util/List;", false)
  | 3 => ("java/lang/Throwable", "detailMessage", "Ljava/lang/String;", false)
  | 4 => ("java/lang/Throwable", "backtrace", "Ljava/lang/Object;", false)
  | 5 => ("java/lang/Throwable", "depth", "I", false)
  | _ => ("NoFartherThanAThrow$Refused", "why", "I", true)
def tyX6 : Nat → FieldType := fun k => match k with
  | 0 => .object "java/lang/Throwable"
  | 1 => .array (.object "java/lang/StackTraceElement")
  | 2 => .object "java/util/List"
  | 3 => .object "java/lang/String"
  | 4 => .object "java/lang/Object"
  | 5 => .int
  | _ => .int
abbrev wsX60 : List Cond := u_ws RX6 TX6 7
theorem nmX6 : ∀ a, a < 7 → ∀ b, b < 7 → a ≠ b → (TX6 a).2.1 ≠ (TX6 b).2.1 := by decide +kernel
theorem tyX6_ok : ∀ k, k < 7 → parseFieldDescriptor (TX6 k).2.2.1 = some (tyX6 k) := by decide +kernel
abbrev cX6_init : ByteArray := prog_12_method_1_code
def yX6_init : MethodName := ⟨RX6, "<init>", "(I)V"⟩
def dkwX6_init_0 : List UInt8 := [42, 1, 1, 3, 3, 183, 0, 1, 42, 27, 181, 0, 7, 177]
abbrev dktX6_init_0 : List UInt8 := dkwX6_init_0 ++ []
theorem dksX6_init_0 : cX6_init.data.toList.drop 0 = dktX6_init_0 := by decide +kernel
theorem dX6_init_0 : decode cX6_init 0 = .ok (.aload_n 0, 1) := dk_42 (dk_at dksX6_init_0 0 rfl rfl)
theorem dX6_init_1 : decode cX6_init 1 = .ok (.aconst_null, 1) := dk_1 (dk_at dksX6_init_0 1 rfl rfl)
theorem dX6_init_2 : decode cX6_init 2 = .ok (.aconst_null, 1) := dk_1 (dk_at dksX6_init_0 2 rfl rfl)
theorem dX6_init_3 : decode cX6_init 3 = .ok (.iconst 0, 1) := dk_3 (dk_at dksX6_init_0 3 rfl rfl)
theorem dX6_init_4 : decode cX6_init 4 = .ok (.iconst 0, 1) := dk_3 (dk_at dksX6_init_0 4 rfl rfl)
theorem dX6_init_5 : decode cX6_init 5 = .ok (.invokespecial 1, 3) := dk_183 0 1 (dk_at dksX6_init_0 5 rfl rfl)
theorem dX6_init_8 : decode cX6_init 8 = .ok (.aload_n 0, 1) := dk_42 (dk_at dksX6_init_0 8 rfl rfl)
theorem dX6_init_9 : decode cX6_init 9 = .ok (.iload_n 1, 1) := dk_27 (dk_at dksX6_init_0 9 rfl rfl)
theorem dX6_init_10 : decode cX6_init 10 = .ok (.putfield 7, 3) := dk_181 0 7 (dk_at dksX6_init_0 10 rfl rfl)
theorem dX6_init_13 : decode cX6_init 13 = .ok (.return_, 1) := dk_177 (dk_at dksX6_init_0 13 rfl rfl)
theorem q91 : (Jvm.Cond.initialized "NoFartherThanAThrow$Refused") ∈ lw_all := lw_g (lw_at lw_m1 13 rfl) rfl
theorem q335 : (Jvm.Cond.selects "NoFartherThanAThrow$Refused" ({ cls := "java/lang/Throwable", name := "fillInStackTrace", desc := "()Ljava/lang/Throwable;" } : Jvm.MethodName) ({ cls := "java/lang/Throwable", name := "fillInStackTrace", desc := "()Ljava/lang/Throwable;" } : Jvm.MethodName)) ∈ lw_all := lw_g (lw_at lw_m2 17 rfl) rfl
theorem q388 : (Jvm.Cond.instantiable "NoFartherThanAThrow$Refused" (7 : Nat)) ∈ lw_all := lw_g (lw_at lw_m2 70 rfl) rfl
theorem q389 : (Jvm.Cond.castable "NoFartherThanAThrow$Refused" "NoFartherThanAThrow$Refused") ∈ lw_tbl := lw_at lw_m2 71 rfl
theorem q390 : (Jvm.Cond.selects "NoFartherThanAThrow$Refused" ({ cls := "java/lang/Throwable", name := "fillInStackTrace", desc := "(I)Ljava/lang/Throwable;" } : Jvm.MethodName) ({ cls := "java/lang/Throwable", name := "fillInStackTrace", desc := "(I)Ljava/lang/Throwable;" } : Jvm.MethodName)) ∈ lw_all := lw_g (lw_at lw_m2 72 rfl) rfl
theorem q391 : (Jvm.Cond.lays "NoFartherThanAThrow$Refused" "java/lang/Throwable" "cause" "Ljava/lang/Throwable;") ∈ lw_all := lw_g (lw_at lw_m2 73 rfl) rfl
theorem q392 : (Jvm.Cond.lays "NoFartherThanAThrow$Refused" "java/lang/Throwable" "stackTrace" "[Ljava/lang/StackTraceElement;") ∈ lw_all := lw_g (lw_at lw_m2 74 rfl) rfl
theorem q393 : (Jvm.Cond.lays "NoFartherThanAThrow$Refused" "java/lang/Throwable" "suppressedExceptions" "Ljava/util/List;") ∈ lw_all := lw_g (lw_at lw_m2 75 rfl) rfl
theorem q394 : (Jvm.Cond.lays "NoFartherThanAThrow$Refused" "java/lang/Throwable" "detailMessage" "Ljava/lang/String;") ∈ lw_all := lw_g (lw_at lw_m2 76 rfl) rfl
theorem q395 : (Jvm.Cond.lays "NoFartherThanAThrow$Refused" "java/lang/Throwable" "backtrace" "Ljava/lang/Object;") ∈ lw_all := lw_g (lw_at lw_m2 77 rfl) rfl
theorem q397 : (Jvm.Cond.instanceMethod ({ cls := "NoFartherThanAThrow$Refused", name := "<init>", desc := "(I)V" } : Jvm.MethodName)) ∈ lw_all := lw_g (lw_at lw_m2 79 rfl) rfl
theorem q398 : (Jvm.Cond.code ({ cls := "NoFartherThanAThrow$Refused", name := "<init>", desc := "(I)V" } : Jvm.MethodName) prog_12_method_1_code (2 : Nat) (Option.none : Option Jvm.ClassFile.FieldType)) ∈ lw_all := lw_g (lw_at lw_m2 80 rfl) rfl
theorem q399 : (Jvm.Cond.methodLink "NoFartherThanAThrow$Refused" (1 : Nat) ({ cls := "java/lang/Exception", name := "<init>", desc := "(Ljava/lang/String;Ljava/lang/Throwable;ZZ)V" } : Jvm.MethodName)) ∈ lw_all := lw_g (lw_at lw_m2 81 rfl) rfl
theorem q405 : (Jvm.Cond.fieldLink "NoFartherThanAThrow$Refused" (7 : Nat) "NoFartherThanAThrow$Refused" "why" "I") ∈ lw_all := lw_g (lw_at lw_m2 87 rfl) rfl
theorem q407 : (Jvm.Cond.laysFinal "NoFartherThanAThrow$Refused" "NoFartherThanAThrow$Refused" "why" "I") ∈ lw_all := lw_g (lw_at lw_m2 89 rfl) rfl
theorem q408 : (Jvm.Cond.soleField "NoFartherThanAThrow$Refused" "why") ∈ lw_all := lw_g (lw_at lw_m2 90 rfl) rfl
theorem q409 : (Jvm.Cond.lays "NoFartherThanAThrow$Refused" "java/lang/Throwable" "depth" "I") ∈ lw_all := lw_g (lw_at lw_m2 91 rfl) rfl
theorem q410 : (Jvm.Cond.superclass "NoFartherThanAThrow$Refused" "java/lang/Exception") ∈ lw_all := lw_g (lw_at lw_m2 92 rfl) rfl
theorem in_X6 : ∀ w ∈ wsX60, w ∈ lw_all := lw_in wsX60 [391, 392, 393, 394, 395, 409, 407] (by decide +kernel) (by decide +kernel)
/-! NoFartherThanAThrow$Row -/
set_option maxRecDepth 100000
def RX7 : String := "NoFartherThanAThrow$Row"
abbrev cX7_init : ByteArray := prog_14_method_1_code
def yX7_init : MethodName := ⟨RX7, "<init>", "()V"⟩
theorem dX7_init_0 : decode cX7_init 0 = .ok (.aload_n 0, 1) := by decide +kernel
theorem dX7_init_1 : decode cX7_init 1 = .ok (.invokespecial 1, 3) := by decide +kernel
theorem dX7_init_4 : decode cX7_init 4 = .ok (.return_, 1) := by decide +kernel
abbrev cX7_asInt : ByteArray := prog_14_method_9_code
def yX7_asInt : MethodName := ⟨RX7, "asInt", "(I)I"⟩
def dkwX7_asInt_0 : List UInt8 := [42, 27, 182, 0, 7, 136, 172]
abbrev dktX7_asInt_0 : List UInt8 := dkwX7_asInt_0 ++ []
theorem dksX7_asInt_0 : cX7_asInt.data.toList.drop 0 = dktX7_asInt_0 := by decide +kernel
theorem dX7_asInt_0 : decode cX7_asInt 0 = .ok (.aload_n 0, 1) := dk_42 (dk_at dksX7_asInt_0 0 rfl rfl)
theorem dX7_asInt_1 : decode cX7_asInt 1 = .ok (.iload_n 1, 1) := dk_27 (dk_at dksX7_asInt_0 1 rfl rfl)
theorem dX7_asInt_2 : decode cX7_asInt 2 = .ok (.invokevirtual 7, 3) := dk_182 0 7 (dk_at dksX7_asInt_0 2 rfl rfl)
theorem dX7_asInt_5 : decode cX7_asInt 5 = .ok (.l2i, 1) := dk_136 (dk_at dksX7_asInt_0 5 rfl rfl)
theorem dX7_asInt_6 : decode cX7_asInt 6 = .ok (.ireturn, 1) := dk_172 (dk_at dksX7_asInt_0 6 rfl rfl)
theorem q93 : (Jvm.Cond.initialized "NoFartherThanAThrow$Row") ∈ lw_all := lw_g (lw_at lw_m1 15 rfl) rfl
theorem q441 : (Jvm.Cond.instanceMethod ({ cls := "NoFartherThanAThrow$Row", name := "<init>", desc := "()V" } : Jvm.MethodName)) ∈ lw_all := lw_g (lw_at lw_m2 123 rfl) rfl
theorem q442 : (Jvm.Cond.code ({ cls := "NoFartherThanAThrow$Row", name := "<init>", desc := "()V" } : Jvm.MethodName) prog_14_method_1_code (1 : Nat) (Option.none : Option Jvm.ClassFile.FieldType)) ∈ lw_all := lw_g (lw_at lw_m2 124 rfl) rfl
theorem q443 : (Jvm.Cond.methodLink "NoFartherThanAThrow$Row" (1 : Nat) ({ cls := "java/lang/Object", name := "<init>", desc := "()V" } : Jvm.MethodName)) ∈ lw_all := lw_g (lw_at lw_m2 125 rfl) rfl
theorem q511 : (Jvm.Cond.declares ({ cls := "NoFartherThanAThrow$Row", name := "put", desc := "(IJ)V" } : Jvm.MethodName)) ∈ lw_tbl := lw_at lw_m2 193 rfl
theorem q512 : (Jvm.Cond.sameMethod "NoFartherThanAThrow$Row" "NoFartherThanAThrow$Row" "put" "(IJ)V") ∈ lw_all := lw_g (lw_at lw_m2 194 rfl) rfl
theorem q536 : (Jvm.Cond.declares ({ cls := "NoFartherThanAThrow$Row", name := "sort", desc := "()I" } : Jvm.MethodName)) ∈ lw_tbl := lw_at lw_m2 218 rfl
theorem q537 : (Jvm.Cond.sameMethod "NoFartherThanAThrow$Row" "NoFartherThanAThrow$Row" "sort" "()I") ∈ lw_all := lw_g (lw_at lw_m2 219 rfl) rfl
theorem q551 : (Jvm.Cond.declares ({ cls := "NoFartherThanAThrow$Row", name := "held", desc := "()Ljava/lang/Object;" } : Jvm.MethodName)) ∈ lw_tbl := lw_at lw_m2 233 rfl
theorem q552 : (Jvm.Cond.sameMethod "NoFartherThanAThrow$Row" "NoFartherThanAThrow$Row" "held" "()Ljava/lang/Object;") ∈ lw_all := lw_g (lw_at lw_m2 234 rfl) rfl
theorem q573 : (Jvm.Cond.declares ({ cls := "NoFartherThanAThrow$Row", name := "get", desc := "(I)J" } : Jvm.MethodName)) ∈ lw_tbl := lw_at lw_m3 15 rfl
theorem q574 : (Jvm.Cond.sameMethod "NoFartherThanAThrow$Row" "NoFartherThanAThrow$Row" "get" "(I)J") ∈ lw_all := lw_g (lw_at lw_m3 16 rfl) rfl
theorem q831 : (Jvm.Cond.declares ({ cls := "NoFartherThanAThrow$Row", name := "length", desc := "()I" } : Jvm.MethodName)) ∈ lw_tbl := lw_at lw_m4 33 rfl
theorem q832 : (Jvm.Cond.sameMethod "NoFartherThanAThrow$Row" "NoFartherThanAThrow$Row" "length" "()I") ∈ lw_all := lw_g (lw_at lw_m4 34 rfl) rfl
theorem q846 : (Jvm.Cond.instanceMethod ({ cls := "NoFartherThanAThrow$Row", name := "asInt", desc := "(I)I" } : Jvm.MethodName)) ∈ lw_all := lw_g (lw_at lw_m4 48 rfl) rfl
theorem q847 : (Jvm.Cond.sameMethod "NoFartherThanAThrow$Row" "NoFartherThanAThrow$Row" "asInt" "(I)I") ∈ lw_all := lw_g (lw_at lw_m4 49 rfl) rfl
theorem q852 : (Jvm.Cond.code ({ cls := "NoFartherThanAThrow$Row", name := "asInt", desc := "(I)I" } : Jvm.MethodName) prog_14_method_9_code (2 : Nat) (Option.some Jvm.ClassFile.FieldType.int)) ∈ lw_all := lw_g (lw_at lw_m4 54 rfl) rfl
theorem q853 : (Jvm.Cond.methodLink "NoFartherThanAThrow$Row" (7 : Nat) ({ cls := "NoFartherThanAThrow$Row", name := "get", desc := "(I)J" } : Jvm.MethodName)) ∈ lw_all := lw_g (lw_at lw_m4 55 rfl) rfl
/-! NoFartherThanAThrow$Bytes -/
set_option maxRecDepth 100000
def RX8 : String := "NoFartherThanAThrow$Bytes"
def TX8 : u_T := fun k => match k with
  | _ => ("NoFartherThanAThrow$Bytes", "e", "[B", true)
def tyX8 : Nat → FieldType := fun k => match k with
  | _ => .array .byte
abbrev wsX80 : List Cond := u_ws RX8 TX8 1
theorem nmX8 : ∀ a, a < 1 → ∀ b, b < 1 → a ≠ b → (TX8 a).2.1 ≠ (TX8 b).2.1 := by decide +kernel
theorem tyX8_ok : ∀ k, k < 1 → parseFieldDescriptor (TX8 k).2.2.1 = some (tyX8 k) := by decide +kernel
abbrev cX8_init : ByteArray := prog_2_method_1_code
def yX8_init : MethodName := ⟨RX8, "<init>", "(I)V"⟩
def dkwX8_init_0 : List UInt8 := [42, 183, 0, 1, 42, 27, 188, 8, 181, 0, 7, 177]
abbrev dktX8_init_0 : List UInt8 := dkwX8_init_0 ++ []
theorem dksX8_init_0 : cX8_init.data.toList.drop 0 = dktX8_init_0 := by decide +kernel
theorem dX8_init_0 : decode cX8_init 0 = .ok (.aload_n 0, 1) := dk_42 (dk_at dksX8_init_0 0 rfl rfl)
theorem dX8_init_1 : decode cX8_init 1 = .ok (.invokespecial 1, 3) := dk_183 0 1 (dk_at dksX8_init_0 1 rfl rfl)
theorem dX8_init_4 : decode cX8_init 4 = .ok (.aload_n 0, 1) := dk_42 (dk_at dksX8_init_0 4 rfl rfl)
theorem dX8_init_5 : decode cX8_init 5 = .ok (.iload_n 1, 1) := dk_27 (dk_at dksX8_init_0 5 rfl rfl)
theorem dX8_init_6 : decode cX8_init 6 = .ok (.newarray .byte, 2) := dk_188_8 (dk_at dksX8_init_0 6 rfl rfl)
theorem dX8_init_8 : decode cX8_init 8 = .ok (.putfield 7, 3) := dk_181 0 7 (dk_at dksX8_init_0 8 rfl rfl)
theorem dX8_init_11 : decode cX8_init 11 = .ok (.return_, 1) := dk_177 (dk_at dksX8_init_0 11 rfl rfl)
abbrev cX8_put : ByteArray := prog_2_method_4_code
def yX8_put : MethodName := ⟨RX8, "put", "(IJ)V"⟩
def dkwX8_put_0 : List UInt8 := [42, 180, 0, 7, 27, 32, 136, 145, 84, 177]
abbrev dktX8_put_0 : List UInt8 := dkwX8_put_0 ++ []
theorem dksX8_put_0 : cX8_put.data.toList.drop 0 = dktX8_put_0 := by decide +kernel
theorem dX8_put_0 : decode cX8_put 0 = .ok (.aload_n 0, 1) := dk_42 (dk_at dksX8_put_0 0 rfl rfl)
theorem dX8_put_1 : decode cX8_put 1 = .ok (.getfield 7, 3) := dk_180 0 7 (dk_at dksX8_put_0 1 rfl rfl)
theorem dX8_put_4 : decode cX8_put 4 = .ok (.iload_n 1, 1) := dk_27 (dk_at dksX8_put_0 4 rfl rfl)
theorem dX8_put_5 : decode cX8_put 5 = .ok (.lload_n 2, 1) := dk_32 (dk_at dksX8_put_0 5 rfl rfl)
theorem dX8_put_6 : decode cX8_put 6 = .ok (.l2i, 1) := dk_136 (dk_at dksX8_put_0 6 rfl rfl)
theorem dX8_put_7 : decode cX8_put 7 = .ok (.i2b, 1) := dk_145 (dk_at dksX8_put_0 7 rfl rfl)
theorem dX8_put_8 : decode cX8_put 8 = .ok (.bastore, 1) := dk_84 (dk_at dksX8_put_0 8 rfl rfl)
theorem dX8_put_9 : decode cX8_put 9 = .ok (.return_, 1) := dk_177 (dk_at dksX8_put_0 9 rfl rfl)
abbrev cX8_sort : ByteArray := prog_2_method_2_code
def yX8_sort : MethodName := ⟨RX8, "sort", "()I"⟩
theorem dX8_sort_0 : decode cX8_sort 0 = .ok (.iconst 0, 1) := by decide +kernel
theorem dX8_sort_1 : decode cX8_sort 1 = .ok (.ireturn, 1) := by decide +kernel
abbrev cX8_held : ByteArray := prog_2_method_8_code
def yX8_held : MethodName := ⟨RX8, "held", "()Ljava/lang/Object;"⟩
theorem dX8_held_0 : decode cX8_held 0 = .ok (.aload_n 0, 1) := by decide +kernel
theorem dX8_held_1 : decode cX8_held 1 = .ok (.getfield 7, 3) := by decide +kernel
theorem dX8_held_4 : decode cX8_held 4 = .ok (.areturn, 1) := by decide +kernel
abbrev cX8_get : ByteArray := prog_2_method_5_code
def yX8_get : MethodName := ⟨RX8, "get", "(I)J"⟩
def dkwX8_get_0 : List UInt8 := [42, 180, 0, 7, 27, 51, 133, 173]
abbrev dktX8_get_0 : List UInt8 := dkwX8_get_0 ++ []
theorem dksX8_get_0 : cX8_get.data.toList.drop 0 = dktX8_get_0 := by decide +kernel
theorem dX8_get_0 : decode cX8_get 0 = .ok (.aload_n 0, 1) := dk_42 (dk_at dksX8_get_0 0 rfl rfl)
theorem dX8_get_1 : decode cX8_get 1 = .ok (.getfield 7, 3) := dk_180 0 7 (dk_at dksX8_get_0 1 rfl rfl)
theorem dX8_get_4 : decode cX8_get 4 = .ok (.iload_n 1, 1) := dk_27 (dk_at dksX8_get_0 4 rfl rfl)
theorem dX8_get_5 : decode cX8_get 5 = .ok (.baload, 1) := dk_51 (dk_at dksX8_get_0 5 rfl rfl)
theorem dX8_get_6 : decode cX8_get 6 = .ok (.i2l, 1) := dk_133 (dk_at dksX8_get_0 6 rfl rfl)
theorem dX8_get_7 : decode cX8_get 7 = .ok (.lreturn, 1) := dk_173 (dk_at dksX8_get_0 7 rfl rfl)
abbrev cX8_length : ByteArray := prog_2_method_3_code
def yX8_length : MethodName := ⟨RX8, "length", "()I"⟩
def dkwX8_length_0 : List UInt8 := [42, 180, 0, 7, 190, 172]
abbrev dktX8_length_0 : List UInt8 := dkwX8_length_0 ++ []
theorem dksX8_length_0 : cX8_length.data.toList.drop 0 = dktX8_length_0 := by decide +kernel
theorem dX8_length_0 : decode cX8_length 0 = .ok (.aload_n 0, 1) := dk_42 (dk_at dksX8_length_0 0 rfl rfl)
theorem dX8_length_1 : decode cX8_length 1 = .ok (.getfield 7, 3) := dk_180 0 7 (dk_at dksX8_length_0 1 rfl rfl)
theorem dX8_length_4 : decode cX8_length 4 = .ok (.arraylength, 1) := dk_190 (dk_at dksX8_length_0 4 rfl rfl)
theorem dX8_length_5 : decode cX8_length 5 = .ok (.ireturn, 1) := dk_172 (dk_at dksX8_length_0 5 rfl rfl)
theorem q94 : (Jvm.Cond.initialized "NoFartherThanAThrow$Bytes") ∈ lw_all := lw_g (lw_at lw_m1 16 rfl) rfl
theorem q436 : (Jvm.Cond.instantiable "NoFartherThanAThrow$Bytes" (1 : Nat)) ∈ lw_all := lw_g (lw_at lw_m2 118 rfl) rfl
theorem q438 : (Jvm.Cond.instanceMethod ({ cls := "NoFartherThanAThrow$Bytes", name := "<init>", desc := "(I)V" } : Jvm.MethodName)) ∈ lw_all := lw_g (lw_at lw_m2 120 rfl) rfl
theorem q439 : (Jvm.Cond.code ({ cls := "NoFartherThanAThrow$Bytes", name := "<init>", desc := "(I)V" } : Jvm.MethodName) prog_2_method_1_code (2 : Nat) (Option.none : Option Jvm.ClassFile.FieldType)) ∈ lw_all := lw_g (lw_at lw_m2 121 rfl) rfl
theorem q440 : (Jvm.Cond.methodLink "NoFartherThanAThrow$Bytes" (1 : Nat) ({ cls := "NoFartherThanAThrow$Row", name := "<init>", desc := "()V" } : Jvm.MethodName)) ∈ lw_all := lw_g (lw_at lw_m2 122 rfl) rfl
theorem q444 : (Jvm.Cond.fieldLink "NoFartherThanAThrow$Bytes" (7 : Nat) "NoFartherThanAThrow$Bytes" "e" "[B") ∈ lw_all := lw_g (lw_at lw_m2 126 rfl) rfl
theorem q445 : (Jvm.Cond.laysFinal "NoFartherThanAThrow$Bytes" "NoFartherThanAThrow$Bytes" "e" "[B") ∈ lw_all := lw_g (lw_at lw_m2 127 rfl) rfl
theorem q446 : (Jvm.Cond.soleField "NoFartherThanAThrow$Bytes" "e") ∈ lw_all := lw_g (lw_at lw_m2 128 rfl) rfl
theorem q447 : (Jvm.Cond.superclass "NoFartherThanAThrow$Bytes" "NoFartherThanAThrow$Row") ∈ lw_all := lw_g (lw_at lw_m2 129 rfl) rfl
theorem q513 : (Jvm.Cond.selects "NoFartherThanAThrow$Bytes" ({ cls := "NoFartherThanAThrow$Row", name := "put", desc := "(IJ)V" } : Jvm.MethodName) ({ cls := "NoFartherThanAThrow$Bytes", name := "put", desc := "(IJ)V" } : Jvm.MethodName)) ∈ lw_all := lw_g (lw_at lw_m2 195 rfl) rfl
theorem q514 : (Jvm.Cond.instanceMethod ({ cls := "NoFartherThanAThrow$Bytes", name := "put", desc := "(IJ)V" } : Jvm.MethodName)) ∈ lw_all := lw_g (lw_at lw_m2 196 rfl) rfl
theorem q515 : (Jvm.Cond.code ({ cls := "NoFartherThanAThrow$Bytes", name := "put", desc := "(IJ)V" } : Jvm.MethodName) prog_2_method_4_code (4 : Nat) (Option.none : Option Jvm.ClassFile.FieldType)) ∈ lw_all := lw_g (lw_at lw_m2 197 rfl) rfl
theorem q538 : (Jvm.Cond.selects "NoFartherThanAThrow$Bytes" ({ cls := "NoFartherThanAThrow$Row", name := "sort", desc := "()I" } : Jvm.MethodName) ({ cls := "NoFartherThanAThrow$Bytes", name := "sort", desc := "()I" } : Jvm.MethodName)) ∈ lw_all := lw_g (lw_at lw_m2 220 rfl) rfl
theorem q539 : (Jvm.Cond.instanceMethod ({ cls := "NoFartherThanAThrow$Bytes", name := "sort", desc := "()I" } : Jvm.MethodName)) ∈ lw_all := lw_g (lw_at lw_m2 221 rfl) rfl
theorem q540 : (Jvm.Cond.code ({ cls := "NoFartherThanAThrow$Bytes", name := "sort", desc := "()I" } : Jvm.MethodName) prog_2_method_2_code (1 : Nat) (Option.some Jvm.ClassFile.FieldType.int)) ∈ lw_all := lw_g (lw_at lw_m2 222 rfl) rfl
theorem q553 : (Jvm.Cond.selects "NoFartherThanAThrow$Bytes" ({ cls := "NoFartherThanAThrow$Row", name := "held", desc := "()Ljava/lang/Object;" } : Jvm.MethodName) ({ cls := "NoFartherThanAThrow$Bytes", name := "held", desc := "()Ljava/lang/Object;" } : Jvm.MethodName)) ∈ lw_all := lw_g (lw_at lw_m2 235 rfl) rfl
theorem q554 : (Jvm.Cond.instanceMethod ({ cls := "NoFartherThanAThrow$Bytes", name := "held", desc := "()Ljava/lang/Object;" } : Jvm.MethodName)) ∈ lw_all := lw_g (lw_at lw_m2 236 rfl) rfl
theorem q555 : (Jvm.Cond.code ({ cls := "NoFartherThanAThrow$Bytes", name := "held", desc := "()Ljava/lang/Object;" } : Jvm.MethodName) prog_2_method_8_code (1 : Nat) (Option.some (Jvm.ClassFile.FieldType.object "java/lang/Object"))) ∈ lw_all := lw_g (lw_at lw_m2 237 rfl) rfl
theorem q575 : (Jvm.Cond.selects "NoFartherThanAThrow$Bytes" ({ cls := "NoFartherThanAThrow$Row", name := "get", desc := "(I)J" } : Jvm.MethodName) ({ cls := "NoFartherThanAThrow$Bytes", name := "get", desc := "(I)J" } : Jvm.MethodName)) ∈ lw_all := lw_g (lw_at lw_m3 17 rfl) rfl
theorem q576 : (Jvm.Cond.instanceMethod ({ cls := "NoFartherThanAThrow$Bytes", name := "get", desc := "(I)J" } : Jvm.MethodName)) ∈ lw_all := lw_g (lw_at lw_m3 18 rfl) rfl
theorem q577 : (Jvm.Cond.code ({ cls := "NoFartherThanAThrow$Bytes", name := "get", desc := "(I)J" } : Jvm.MethodName) prog_2_method_5_code (2 : Nat) (Option.some Jvm.ClassFile.FieldType.long)) ∈ lw_all := lw_g (lw_at lw_m3 19 rfl) rfl
theorem q833 : (Jvm.Cond.selects "NoFartherThanAThrow$Bytes" ({ cls := "NoFartherThanAThrow$Row", name := "length", desc := "()I" } : Jvm.MethodName) ({ cls := "NoFartherThanAThrow$Bytes", name := "length", desc := "()I" } : Jvm.MethodName)) ∈ lw_all := lw_g (lw_at lw_m4 35 rfl) rfl
theorem q834 : (Jvm.Cond.instanceMethod ({ cls := "NoFartherThanAThrow$Bytes", name := "length", desc := "()I" } : Jvm.MethodName)) ∈ lw_all := lw_g (lw_at lw_m4 36 rfl) rfl
theorem q835 : (Jvm.Cond.code ({ cls := "NoFartherThanAThrow$Bytes", name := "length", desc := "()I" } : Jvm.MethodName) prog_2_method_3_code (1 : Nat) (Option.some Jvm.ClassFile.FieldType.int)) ∈ lw_all := lw_g (lw_at lw_m4 37 rfl) rfl
theorem q848 : (Jvm.Cond.selects "NoFartherThanAThrow$Bytes" ({ cls := "NoFartherThanAThrow$Row", name := "asInt", desc := "(I)I" } : Jvm.MethodName) ({ cls := "NoFartherThanAThrow$Row", name := "asInt", desc := "(I)I" } : Jvm.MethodName)) ∈ lw_all := lw_g (lw_at lw_m4 50 rfl) rfl
theorem q1945 : (Jvm.Cond.castable "NoFartherThanAThrow$Bytes" "NoFartherThanAThrow$Row") ∈ lw_tbl := lw_at lw_m8 187 rfl
theorem in_X8 : ∀ w ∈ wsX80, w ∈ lw_all := lw_in wsX80 [445] (by decide +kernel) (by decide +kernel)
/-! NoFartherThanAThrow$Shorts -/
set_option maxRecDepth 100000
def RX9 : String := "NoFartherThanAThrow$Shorts"
def TX9 : u_T := fun k => match k with
  | _ => ("NoFartherThanAThrow$Shorts", "e", "[S", true)
def tyX9 : Nat → FieldType := fun k => match k with
  | _ => .array .short
abbrev wsX90 : List Cond := u_ws RX9 TX9 1
theorem nmX9 : ∀ a, a < 1 → ∀ b, b < 1 → a ≠ b → (TX9 a).2.1 ≠ (TX9 b).2.1 := by decide +kernel
theorem tyX9_ok : ∀ k, k < 1 → parseFieldDescriptor (TX9 k).2.2.1 = some (tyX9 k) := by decide +kernel
abbrev cX9_init : ByteArray := prog_17_method_1_code
def yX9_init : MethodName := ⟨RX9, "<init>", "(I)V"⟩
def dkwX9_init_0 : List UInt8 := [42, 183, 0, 1, 42, 27, 188, 9, 181, 0, 7, 177]
abbrev dktX9_init_0 : List UInt8 := dkwX9_init_0 ++ []
theorem dksX9_init_0 : cX9_init.data.toList.drop 0 = dktX9_init_0 := by decide +kernel
theorem dX9_init_0 : decode cX9_init 0 = .ok (.aload_n 0, 1) := dk_42 (dk_at dksX9_init_0 0 rfl rfl)
theorem dX9_init_1 : decode cX9_init 1 = .ok (.invokespecial 1, 3) := dk_183 0 1 (dk_at dksX9_init_0 1 rfl rfl)
theorem dX9_init_4 : decode cX9_init 4 = .ok (.aload_n 0, 1) := dk_42 (dk_at dksX9_init_0 4 rfl rfl)
theorem dX9_init_5 : decode cX9_init 5 = .ok (.iload_n 1, 1) := dk_27 (dk_at dksX9_init_0 5 rfl rfl)
theorem dX9_init_6 : decode cX9_init 6 = .ok (.newarray .short, 2) := dk_188_9 (dk_at dksX9_init_0 6 rfl rfl)
theorem dX9_init_8 : decode cX9_init 8 = .ok (.putfield 7, 3) := dk_181 0 7 (dk_at dksX9_init_0 8 rfl rfl)
theorem dX9_init_11 : decode cX9_init 11 = .ok (.return_, 1) := dk_177 (dk_at dksX9_init_0 11 rfl rfl)
abbrev cX9_put : ByteArray := prog_17_method_4_code
def yX9_put : MethodName := ⟨RX9, "put", "(IJ)V"⟩
def dkwX9_put_0 : List UInt8 := [42, 180, 0, 7, 27, 32, 136, 147, 86, 177]
abbrev dktX9_put_0 : List UInt8 := dkwX9_put_0 ++ []
theorem dksX9_put_0 : cX9_put.data.toList.drop 0 = dktX9_put_0 := by decide +kernel
theorem dX9_put_0 : decode cX9_put 0 = .ok (.aload_n 0, 1) := dk_42 (dk_at dksX9_put_0 0 rfl rfl)
theorem dX9_put_1 : decode cX9_put 1 = .ok (.getfield 7, 3) := dk_180 0 7 (dk_at dksX9_put_0 1 rfl rfl)
theorem dX9_put_4 : decode cX9_put 4 = .ok (.iload_n 1, 1) := dk_27 (dk_at dksX9_put_0 4 rfl rfl)
theorem dX9_put_5 : decode cX9_put 5 = .ok (.lload_n 2, 1) := dk_32 (dk_at dksX9_put_0 5 rfl rfl)
theorem dX9_put_6 : decode cX9_put 6 = .ok (.l2i, 1) := dk_136 (dk_at dksX9_put_0 6 rfl rfl)
theorem dX9_put_7 : decode cX9_put 7 = .ok (.i2s, 1) := dk_147 (dk_at dksX9_put_0 7 rfl rfl)
theorem dX9_put_8 : decode cX9_put 8 = .ok (.sastore, 1) := dk_86 (dk_at dksX9_put_0 8 rfl rfl)
theorem dX9_put_9 : decode cX9_put 9 = .ok (.return_, 1) := dk_177 (dk_at dksX9_put_0 9 rfl rfl)
abbrev cX9_sort : ByteArray := prog_17_method_2_code
def yX9_sort : MethodName := ⟨RX9, "sort", "()I"⟩
theorem dX9_sort_0 : decode cX9_sort 0 = .ok (.iconst 1, 1) := by decide +kernel
theorem dX9_sort_1 : decode cX9_sort 1 = .ok (.ireturn, 1) := by decide +kernel
abbrev cX9_held : ByteArray := prog_17_method_8_code
def yX9_held : MethodName := ⟨RX9, "held", "()Ljava/lang/Object;"⟩
theorem dX9_held_0 : decode cX9_held 0 = .ok (.aload_n 0, 1) := by decide +kernel
theorem dX9_held_1 : decode cX9_held 1 = .ok (.getfield 7, 3) := by decide +kernel
theorem dX9_held_4 : decode cX9_held 4 = .ok (.areturn, 1) := by decide +kernel
abbrev cX9_get : ByteArray := prog_17_method_5_code
def yX9_get : MethodName := ⟨RX9, "get", "(I)J"⟩
def dkwX9_get_0 : List UInt8 := [42, 180, 0, 7, 27, 53, 133, 173]
abbrev dktX9_get_0 : List UInt8 := dkwX9_get_0 ++ []
theorem dksX9_get_0 : cX9_get.data.toList.drop 0 = dktX9_get_0 := by decide +kernel
theorem dX9_get_0 : decode cX9_get 0 = .ok (.aload_n 0, 1) := dk_42 (dk_at dksX9_get_0 0 rfl rfl)
theorem dX9_get_1 : decode cX9_get 1 = .ok (.getfield 7, 3) := dk_180 0 7 (dk_at dksX9_get_0 1 rfl rfl)
theorem dX9_get_4 : decode cX9_get 4 = .ok (.iload_n 1, 1) := dk_27 (dk_at dksX9_get_0 4 rfl rfl)
theorem dX9_get_5 : decode cX9_get 5 = .ok (.saload, 1) := dk_53 (dk_at dksX9_get_0 5 rfl rfl)
theorem dX9_get_6 : decode cX9_get 6 = .ok (.i2l, 1) := dk_133 (dk_at dksX9_get_0 6 rfl rfl)
theorem dX9_get_7 : decode cX9_get 7 = .ok (.lreturn, 1) := dk_173 (dk_at dksX9_get_0 7 rfl rfl)
abbrev cX9_length : ByteArray := prog_17_method_3_code
def yX9_length : MethodName := ⟨RX9, "length", "()I"⟩
def dkwX9_length_0 : List UInt8 := [42, 180, 0, 7, 190, 172]
abbrev dktX9_length_0 : List UInt8 := dkwX9_length_0 ++ []
theorem dksX9_length_0 : cX9_length.data.toList.drop 0 = dktX9_length_0 := by decide +kernel
theorem dX9_length_0 : decode cX9_length 0 = .ok (.aload_n 0, 1) := dk_42 (dk_at dksX9_length_0 0 rfl rfl)
theorem dX9_length_1 : decode cX9_length 1 = .ok (.getfield 7, 3) := dk_180 0 7 (dk_at dksX9_length_0 1 rfl rfl)
theorem dX9_length_4 : decode cX9_length 4 = .ok (.arraylength, 1) := dk_190 (dk_at dksX9_length_0 4 rfl rfl)
theorem dX9_length_5 : decode cX9_length 5 = .ok (.ireturn, 1) := dk_172 (dk_at dksX9_length_0 5 rfl rfl)
theorem q95 : (Jvm.Cond.initialized "NoFartherThanAThrow$Shorts") ∈ lw_all := lw_g (lw_at lw_m1 17 rfl) rfl
theorem q449 : (Jvm.Cond.instantiable "NoFartherThanAThrow$Shorts" (1 : Nat)) ∈ lw_all := lw_g (lw_at lw_m2 131 rfl) rfl
theorem q451 : (Jvm.Cond.instanceMethod ({ cls := "NoFartherThanAThrow$Shorts", name := "<init>", desc := "(I)V" } : Jvm.MethodName)) ∈ lw_all := lw_g (lw_at lw_m2 133 rfl) rfl
theorem q452 : (Jvm.Cond.code ({ cls := "NoFartherThanAThrow$Shorts", name := "<init>", desc := "(I)V" } : Jvm.MethodName) prog_17_method_1_code (2 : Nat) (Option.none : Option Jvm.ClassFile.FieldType)) ∈ lw_all := lw_g (lw_at lw_m2 134 rfl) rfl
theorem q453 : (Jvm.Cond.methodLink "NoFartherThanAThrow$Shorts" (1 : Nat) ({ cls := "NoFartherThanAThrow$Row", name := "<init>", desc := "()V" } : Jvm.MethodName)) ∈ lw_all := lw_g (lw_at lw_m2 135 rfl) rfl
theorem q454 : (Jvm.Cond.fieldLink "NoFartherThanAThrow$Shorts" (7 : Nat) "NoFartherThanAThrow$Shorts" "e" "[S") ∈ lw_all := lw_g (lw_at lw_m2 136 rfl) rfl
theorem q455 : (Jvm.Cond.laysFinal "NoFartherThanAThrow$Shorts" "NoFartherThanAThrow$Shorts" "e" "[S") ∈ lw_all := lw_g (lw_at lw_m2 137 rfl) rfl
theorem q456 : (Jvm.Cond.soleField "NoFartherThanAThrow$Shorts" "e") ∈ lw_all := lw_g (lw_at lw_m2 138 rfl) rfl
theorem q457 : (Jvm.Cond.superclass "NoFartherThanAThrow$Shorts" "NoFartherThanAThrow$Row") ∈ lw_all := lw_g (lw_at lw_m2 139 rfl) rfl
theorem q522 : (Jvm.Cond.selects "NoFartherThanAThrow$Shorts" ({ cls := "NoFartherThanAThrow$Row", name := "put", desc := "(IJ)V" } : Jvm.MethodName) ({ cls := "NoFartherThanAThrow$Shorts", name := "put", desc := "(IJ)V" } : Jvm.MethodName)) ∈ lw_all := lw_g (lw_at lw_m2 204 rfl) rfl
theorem q523 : (Jvm.Cond.instanceMethod ({ cls := "NoFartherThanAThrow$Shorts", name := "put", desc := "(IJ)V" } : Jvm.MethodName)) ∈ lw_all := lw_g (lw_at lw_m2 205 rfl) rfl
theorem q524 : (Jvm.Cond.code ({ cls := "NoFartherThanAThrow$Shorts", name := "put", desc := "(IJ)V" } : Jvm.MethodName) prog_17_method_4_code (4 : Nat) (Option.none : Option Jvm.ClassFile.FieldType)) ∈ lw_all := lw_g (lw_at lw_m2 206 rfl) rfl
theorem q547 : (Jvm.Cond.selects "NoFartherThanAThrow$Shorts" ({ cls := "NoFartherThanAThrow$Row", name := "sort", desc := "()I" } : Jvm.MethodName) ({ cls := "NoFartherThanAThrow$Shorts", name := "sort", desc := "()I" } : Jvm.MethodName)) ∈ lw_all := lw_g (lw_at lw_m2 229 rfl) rfl
theorem q548 : (Jvm.Cond.instanceMethod ({ cls := "NoFartherThanAThrow$Shorts", name := "sort", desc := "()I" } : Jvm.MethodName)) ∈ lw_all := lw_g (lw_at lw_m2 230 rfl) rfl
theorem q549 : (Jvm.Cond.code ({ cls := "NoFartherThanAThrow$Shorts", name := "sort", desc := "()I" } : Jvm.MethodName) prog_17_method_2_code (1 : Nat) (Option.some Jvm.ClassFile.FieldType.int)) ∈ lw_all := lw_g (lw_at lw_m2 231 rfl) rfl
theorem q562 : (Jvm.Cond.selects "NoFartherThanAThrow$Shorts" ({ cls := "NoFartherThanAThrow$Row", name := "held", desc := "()Ljava/lang/Object;" } : Jvm.MethodName) ({ cls := "NoFartherThanAThrow$Shorts", name := "held", desc := "()Ljava/lang/Object;" } : Jvm.MethodName)) ∈ lw_all := lw_g (lw_at lw_m3 4 rfl) rfl
theorem q563 : (Jvm.Cond.instanceMethod ({ cls := "NoFartherThanAThrow$Shorts", name := "held", desc := "()Ljava/lang/Object;" } : Jvm.MethodName)) ∈ lw_all := lw_g (lw_at lw_m3 5 rfl) rfl
theorem q564 : (Jvm.Cond.code ({ cls := "NoFartherThanAThrow$Shorts", name := "held", desc := "()Ljava/lang/Object;" } : Jvm.MethodName) prog_17_method_8_code (1 : Nat) (Option.some (Jvm.ClassFile.FieldType.object "java/lang/Object"))) ∈ lw_all := lw_g (lw_at lw_m3 6 rfl) rfl
theorem q584 : (Jvm.Cond.selects "NoFartherThanAThrow$Shorts" ({ cls := "NoFartherThanAThrow$Row", name := "get", desc := "(I)J" } : Jvm.MethodName) ({ cls := "NoFartherThanAThrow$Shorts", name := "get", desc := "(I)J" } : Jvm.MethodName)) ∈ lw_all := lw_g (lw_at lw_m3 26 rfl) rfl
theorem q585 : (Jvm.Cond.instanceMethod ({ cls := "NoFartherThanAThrow$Shorts", name := "get", desc := "(I)J" } : Jvm.MethodName)) ∈ lw_all := lw_g (lw_at lw_m3 27 rfl) rfl
theorem q586 : (Jvm.Cond.code ({ cls := "NoFartherThanAThrow$Shorts", name := "get", desc := "(I)J" } : Jvm.MethodName) prog_17_method_5_code (2 : Nat) (Option.some Jvm.ClassFile.FieldType.long)) ∈ lw_all := lw_g (lw_at lw_m3 28 rfl) rfl
theorem q842 : (Jvm.Cond.selects "NoFartherThanAThrow$Shorts" ({ cls := "NoFartherThanAThrow$Row", name := "length", desc := "()I" } : Jvm.MethodName) ({ cls := "NoFartherThanAThrow$Shorts", name := "length", desc := "()I" } : Jvm.MethodName)) ∈ lw_all := lw_g (lw_at lw_m4 44 rfl) rfl
theorem q843 : (Jvm.Cond.instanceMethod ({ cls := "NoFartherThanAThrow$Shorts", name := "length", desc := "()I" } : Jvm.MethodName)) ∈ lw_all := lw_g (lw_at lw_m4 45 rfl) rfl
theorem q844 : (Jvm.Cond.code ({ cls := "NoFartherThanAThrow$Shorts", name := "length", desc := "()I" } : Jvm.MethodName) prog_17_method_3_code (1 : Nat) (Option.some Jvm.ClassFile.FieldType.int)) ∈ lw_all := lw_g (lw_at lw_m4 46 rfl) rfl
theorem q851 : (Jvm.Cond.selects "NoFartherThanAThrow$Shorts" ({ cls := "NoFartherThanAThrow$Row", name := "asInt", desc := "(I)I" } : Jvm.MethodName) ({ cls := "NoFartherThanAThrow$Row", name := "asInt", desc := "(I)I" } : Jvm.MethodName)) ∈ lw_all := lw_g (lw_at lw_m4 53 rfl) rfl
theorem q1948 : (Jvm.Cond.castable "NoFartherThanAThrow$Shorts" "NoFartherThanAThrow$Row") ∈ lw_tbl := lw_at lw_m8 190 rfl
theorem in_X9 : ∀ w ∈ wsX90, w ∈ lw_all := lw_in wsX90 [455] (by decide +kernel) (by decide +kernel)
/-! NoFartherThanAThrow$Ints -/
set_option maxRecDepth 100000
def RX10 : String := "NoFartherThanAThrow$Ints"
def TX10 : u_T := fun k => match k with
  | _ => ("NoFartherThanAThrow$Ints", "e", "[I", true)
def tyX10 : Nat → FieldType := fun k => match k with
  | _ => .array .int
abbrev wsX100 : List Cond := u_ws RX10 TX10 1
theorem nmX10 : ∀ a, a < 1 → ∀ b, b < 1 → a ≠ b → (TX10 a).2.1 ≠ (TX10 b).2.1 := by decide +kernel
theorem tyX10_ok : ∀ k, k < 1 → parseFieldDescriptor (TX10 k).2.2.1 = some (tyX10 k) := by decide +kernel
abbrev cX10_init : ByteArray := prog_7_method_1_code
def yX10_init : MethodName := ⟨RX10, "<init>", "(I)V"⟩
def dkwX10_init_0 : List UInt8 := [42, 183, 0, 1, 42, 27, 188, 10, 181, 0, 7, 177]
abbrev dktX10_init_0 : List UInt8 := dkwX10_init_0 ++ []
theorem dksX10_init_0 : cX10_init.data.toList.drop 0 = dktX10_init_0 := by decide +kernel
theorem dX10_init_0 : decode cX10_init 0 = .ok (.aload_n 0, 1) := dk_42 (dk_at dksX10_init_0 0 rfl rfl)
theorem dX10_init_1 : decode cX10_init 1 = .ok (.invokespecial 1, 3) := dk_183 0 1 (dk_at dksX10_init_0 1 rfl rfl)
theorem dX10_init_4 : decode cX10_init 4 = .ok (.aload_n 0, 1) := dk_42 (dk_at dksX10_init_0 4 rfl rfl)
theorem dX10_init_5 : decode cX10_init 5 = .ok (.iload_n 1, 1) := dk_27 (dk_at dksX10_init_0 5 rfl rfl)
theorem dX10_init_6 : decode cX10_init 6 = .ok (.newarray .int, 2) := dk_188_10 (dk_at dksX10_init_0 6 rfl rfl)
theorem dX10_init_8 : decode cX10_init 8 = .ok (.putfield 7, 3) := dk_181 0 7 (dk_at dksX10_init_0 8 rfl rfl)
theorem dX10_init_11 : decode cX10_init 11 = .ok (.return_, 1) := dk_177 (dk_at dksX10_init_0 11 rfl rfl)
abbrev cX10_put : ByteArray := prog_7_method_4_code
def yX10_put : MethodName := ⟨RX10, "put", "(IJ)V"⟩
def dkwX10_put_0 : List UInt8 := [42, 180, 0, 7, 27, 32, 136, 79, 177]
abbrev dktX10_put_0 : List UInt8 := dkwX10_put_0 ++ []
theorem dksX10_put_0 : cX10_put.data.toList.drop 0 = dktX10_put_0 := by decide +kernel
theorem dX10_put_0 : decode cX10_put 0 = .ok (.aload_n 0, 1) := dk_42 (dk_at dksX10_put_0 0 rfl rfl)
theorem dX10_put_1 : decode cX10_put 1 = .ok (.getfield 7, 3) := dk_180 0 7 (dk_at dksX10_put_0 1 rfl rfl)
theorem dX10_put_4 : decode cX10_put 4 = .ok (.iload_n 1, 1) := dk_27 (dk_at dksX10_put_0 4 rfl rfl)
theorem dX10_put_5 : decode cX10_put 5 = .ok (.lload_n 2, 1) := dk_32 (dk_at dksX10_put_0 5 rfl rfl)
theorem dX10_put_6 : decode cX10_put 6 = .ok (.l2i, 1) := dk_136 (dk_at dksX10_put_0 6 rfl rfl)
theorem dX10_put_7 : decode cX10_put 7 = .ok (.iastore, 1) := dk_79 (dk_at dksX10_put_0 7 rfl rfl)
theorem dX10_put_8 : decode cX10_put 8 = .ok (.return_, 1) := dk_177 (dk_at dksX10_put_0 8 rfl rfl)
abbrev cX10_sort : ByteArray := prog_7_method_2_code
def yX10_sort : MethodName := ⟨RX10, "sort", "()I"⟩
theorem dX10_sort_0 : decode cX10_sort 0 = .ok (.iconst 2, 1) := by decide +kernel
theorem dX10_sort_1 : decode cX10_sort 1 = .ok (.ireturn, 1) := by decide +kernel
abbrev cX10_held : ByteArray := prog_7_method_8_code
def yX10_held : MethodName := ⟨RX10, "held", "()Ljava/lang/Object;"⟩
theorem dX10_held_0 : decode cX10_held 0 = .ok (.aload_n 0, 1) := by decide +kernel
theorem dX10_held_1 : decode cX10_held 1 = .ok (.getfield 7, 3) := by decide +kernel
theorem dX10_held_4 : decode cX10_held 4 = .ok (.areturn, 1) := by decide +kernel
abbrev cX10_get : ByteArray := prog_7_method_5_code
def yX10_get : MethodName := ⟨RX10, "get", "(I)J"⟩
def dkwX10_get_0 : List UInt8 := [42, 180, 0, 7, 27, 46, 133, 173]
abbrev dktX10_get_0 : List UInt8 := dkwX10_get_0 ++ []
theorem dksX10_get_0 : cX10_get.data.toList.drop 0 = dktX10_get_0 := by decide +kernel
theorem dX10_get_0 : decode cX10_get 0 = .ok (.aload_n 0, 1) := dk_42 (dk_at dksX10_get_0 0 rfl rfl)
theorem dX10_get_1 : decode cX10_get 1 = .ok (.getfield 7, 3) := dk_180 0 7 (dk_at dksX10_get_0 1 rfl rfl)
theorem dX10_get_4 : decode cX10_get 4 = .ok (.iload_n 1, 1) := dk_27 (dk_at dksX10_get_0 4 rfl rfl)
theorem dX10_get_5 : decode cX10_get 5 = .ok (.iaload, 1) := dk_46 (dk_at dksX10_get_0 5 rfl rfl)
theorem dX10_get_6 : decode cX10_get 6 = .ok (.i2l, 1) := dk_133 (dk_at dksX10_get_0 6 rfl rfl)
theorem dX10_get_7 : decode cX10_get 7 = .ok (.lreturn, 1) := dk_173 (dk_at dksX10_get_0 7 rfl rfl)
abbrev cX10_length : ByteArray := prog_7_method_3_code
def yX10_length : MethodName := ⟨RX10, "length", "()I"⟩
def dkwX10_length_0 : List UInt8 := [42, 180, 0, 7, 190, 172]
abbrev dktX10_length_0 : List UInt8 := dkwX10_length_0 ++ []
theorem dksX10_length_0 : cX10_length.data.toList.drop 0 = dktX10_length_0 := by decide +kernel
theorem dX10_length_0 : decode cX10_length 0 = .ok (.aload_n 0, 1) := dk_42 (dk_at dksX10_length_0 0 rfl rfl)
theorem dX10_length_1 : decode cX10_length 1 = .ok (.getfield 7, 3) := dk_180 0 7 (dk_at dksX10_length_0 1 rfl rfl)
theorem dX10_length_4 : decode cX10_length 4 = .ok (.arraylength, 1) := dk_190 (dk_at dksX10_length_0 4 rfl rfl)
theorem dX10_length_5 : decode cX10_length 5 = .ok (.ireturn, 1) := dk_172 (dk_at dksX10_length_0 5 rfl rfl)
theorem q96 : (Jvm.Cond.initialized "NoFartherThanAThrow$Ints") ∈ lw_all := lw_g (lw_at lw_m1 18 rfl) rfl
theorem q460 : (Jvm.Cond.instantiable "NoFartherThanAThrow$Ints" (1 : Nat)) ∈ lw_all := lw_g (lw_at lw_m2 142 rfl) rfl
theorem q462 : (Jvm.Cond.instanceMethod ({ cls := "NoFartherThanAThrow$Ints", name := "<init>", desc := "(I)V" } : Jvm.MethodName)) ∈ lw_all := lw_g (lw_at lw_m2 144 rfl) rfl
theorem q463 : (Jvm.Cond.code ({ cls := "NoFartherThanAThrow$Ints", name := "<init>", desc := "(I)V" } : Jvm.MethodName) prog_7_method_1_code (2 : Nat) (Option.none : Option Jvm.ClassFile.FieldType)) ∈ lw_all := lw_g (lw_at lw_m2 145 rfl) rfl
theorem q464 : (Jvm.Cond.methodLink "NoFartherThanAThrow$Ints" (1 : Nat) ({ cls := "NoFartherThanAThrow$Row", name := "<init>", desc := "()V" } : Jvm.MethodName)) ∈ lw_all := lw_g (lw_at lw_m2 146 rfl) rfl
theorem q465 : (Jvm.Cond.fieldLink "NoFartherThanAThrow$Ints" (7 : Nat) "NoFartherThanAThrow$Ints" "e" "[I") ∈ lw_all := lw_g (lw_at lw_m2 147 rfl) rfl
theorem q466 : (Jvm.Cond.laysFinal "NoFartherThanAThrow$Ints" "NoFartherThanAThrow$Ints" "e" "[I") ∈ lw_all := lw_g (lw_at lw_m2 148 rfl) rfl
theorem q467 : (Jvm.Cond.soleField "NoFartherThanAThrow$Ints" "e") ∈ lw_all := lw_g (lw_at lw_m2 149 rfl) rfl
theorem q468 : (Jvm.Cond.superclass "NoFartherThanAThrow$Ints" "NoFartherThanAThrow$Row") ∈ lw_all := lw_g (lw_at lw_m2 150 rfl) rfl
theorem q516 : (Jvm.Cond.selects "NoFartherThanAThrow$Ints" ({ cls := "NoFartherThanAThrow$Row", name := "put", desc := "(IJ)V" } : Jvm.MethodName) ({ cls := "NoFartherThanAThrow$Ints", name := "put", desc := "(IJ)V" } : Jvm.MethodName)) ∈ lw_all := lw_g (lw_at lw_m2 198 rfl) rfl
theorem q517 : (Jvm.Cond.instanceMethod ({ cls := "NoFartherThanAThrow$Ints", name := "put", desc := "(IJ)V" } : Jvm.MethodName)) ∈ lw_all := lw_g (lw_at lw_m2 199 rfl) rfl
theorem q518 : (Jvm.Cond.code ({ cls := "NoFartherThanAThrow$Ints", name := "put", desc := "(IJ)V" } : Jvm.MethodName) prog_7_method_4_code (4 : Nat) (Option.none : Option Jvm.ClassFile.FieldType)) ∈ lw_all := lw_g (lw_at lw_m2 200 rfl) rfl
theorem q541 : (Jvm.Cond.selects "NoFartherThanAThrow$Ints" ({ cls := "NoFartherThanAThrow$Row", name := "sort", desc := "()I" } : Jvm.MethodName) ({ cls := "NoFartherThanAThrow$Ints", name := "sort", desc := "()I" } : Jvm.MethodName)) ∈ lw_all := lw_g (lw_at lw_m2 223 rfl) rfl
theorem q542 : (Jvm.Cond.instanceMethod ({ cls := "NoFartherThanAThrow$Ints", name := "sort", desc := "()I" } : Jvm.MethodName)) ∈ lw_all := lw_g (lw_at lw_m2 224 rfl) rfl
theorem q543 : (Jvm.Cond.code ({ cls := "NoFartherThanAThrow$Ints", name := "sort", desc := "()I" } : Jvm.MethodName) prog_7_method_2_code (1 : Nat) (Option.some Jvm.ClassFile.FieldType.int)) ∈ lw_all := lw_g (lw_at lw_m2 225 rfl) rfl
theorem q556 : (Jvm.Cond.selects "NoFartherThanAThrow$Ints" ({ cls := "NoFartherThanAThrow$Row", name := "held", desc := "()Ljava/lang/Object;" } : Jvm.MethodName) ({ cls := "NoFartherThanAThrow$Ints", name := "held", desc := "()Ljava/lang/Object;" } : Jvm.MethodName)) ∈ lw_all := lw_g (lw_at lw_m2 238 rfl) rfl
theorem q557 : (Jvm.Cond.instanceMethod ({ cls := "NoFartherThanAThrow$Ints", name := "held", desc := "()Ljava/lang/Object;" } : Jvm.MethodName)) ∈ lw_all := lw_g (lw_at lw_m2 239 rfl) rfl
theorem q558 : (Jvm.Cond.code ({ cls := "NoFartherThanAThrow$Ints", name := "held", desc := "()Ljava/lang/Object;" } : Jvm.MethodName) prog_7_method_8_code (1 : Nat) (Option.some (Jvm.ClassFile.FieldType.object "java/lang/Object"))) ∈ lw_all := lw_g (lw_at lw_m3 0 rfl) rfl
theorem q578 : (Jvm.Cond.selects "NoFartherThanAThrow$Ints" ({ cls := "NoFartherThanAThrow$Row", name := "get", desc := "(I)J" } : Jvm.MethodName) ({ cls := "NoFartherThanAThrow$Ints", name := "get", desc := "(I)J" } : Jvm.MethodName)) ∈ lw_all := lw_g (lw_at lw_m3 20 rfl) rfl
theorem q579 : (Jvm.Cond.instanceMethod ({ cls := "NoFartherThanAThrow$Ints", name := "get", desc := "(I)J" } : Jvm.MethodName)) ∈ lw_all := lw_g (lw_at lw_m3 21 rfl) rfl
theorem q580 : (Jvm.Cond.code ({ cls := "NoFartherThanAThrow$Ints", name := "get", desc := "(I)J" } : Jvm.MethodName) prog_7_method_5_code (2 : Nat) (Option.some Jvm.ClassFile.FieldType.long)) ∈ lw_all := lw_g (lw_at lw_m3 22 rfl) rfl
theorem q836 : (Jvm.Cond.selects "NoFartherThanAThrow$Ints" ({ cls := "NoFartherThanAThrow$Row", name := "length", desc := "()I" } : Jvm.MethodName) ({ cls := "NoFartherThanAThrow$Ints", name := "length", desc := "()I" } : Jvm.MethodName)) ∈ lw_all := lw_g (lw_at lw_m4 38 rfl) rfl
theorem q837 : (Jvm.Cond.instanceMethod ({ cls := "NoFartherThanAThrow$Ints", name := "length", desc := "()I" } : Jvm.MethodName)) ∈ lw_all := lw_g (lw_at lw_m4 39 rfl) rfl
theorem q838 : (Jvm.Cond.code ({ cls := "NoFartherThanAThrow$Ints", name := "length", desc := "()I" } : Jvm.MethodName) prog_7_method_3_code (1 : Nat) (Option.some Jvm.ClassFile.FieldType.int)) ∈ lw_all := lw_g (lw_at lw_m4 40 rfl) rfl
theorem q849 : (Jvm.Cond.selects "NoFartherThanAThrow$Ints" ({ cls := "NoFartherThanAThrow$Row", name := "asInt", desc := "(I)I" } : Jvm.MethodName) ({ cls := "NoFartherThanAThrow$Row", name := "asInt", desc := "(I)I" } : Jvm.MethodName)) ∈ lw_all := lw_g (lw_at lw_m4 51 rfl) rfl
theorem q1946 : (Jvm.Cond.castable "NoFartherThanAThrow$Ints" "NoFartherThanAThrow$Row") ∈ lw_tbl := lw_at lw_m8 188 rfl
theorem in_X10 : ∀ w ∈ wsX100, w ∈ lw_all := lw_in wsX100 [466] (by decide +kernel) (by decide +kernel)
/-! NoFartherThanAThrow$Longs -/
set_option maxRecDepth 100000
def RX11 : String := "NoFartherThanAThrow$Longs"
def TX11 : u_T := fun k => match k with
  | _ => ("NoFartherThanAThrow$Longs", "e", "[J", true)
def tyX11 : Nat → FieldType := fun k => match k with
  | _ => .array .long
abbrev wsX110 : List Cond := u_ws RX11 TX11 1
theorem nmX11 : ∀ a, a < 1 → ∀ b, b < 1 → a ≠ b → (TX11 a).2.1 ≠ (TX11 b).2.1 := by decide +kernel
theorem tyX11_ok : ∀ k, k < 1 → parseFieldDescriptor (TX11 k).2.2.1 = some (tyX11 k) := by decide +kernel
abbrev cX11_init : ByteArray := prog_9_method_1_code
def yX11_init : MethodName := ⟨RX11, "<init>", "(I)V"⟩
def dkwX11_init_0 : List UInt8 := [42, 183, 0, 1, 42, 27, 188, 11, 181, 0, 7, 177]
abbrev dktX11_init_0 : List UInt8 := dkwX11_init_0 ++ []
theorem dksX11_init_0 : cX11_init.data.toList.drop 0 = dktX11_init_0 := by decide +kernel
theorem dX11_init_0 : decode cX11_init 0 = .ok (.aload_n 0, 1) := dk_42 (dk_at dksX11_init_0 0 rfl rfl)
theorem dX11_init_1 : decode cX11_init 1 = .ok (.invokespecial 1, 3) := dk_183 0 1 (dk_at dksX11_init_0 1 rfl rfl)
theorem dX11_init_4 : decode cX11_init 4 = .ok (.aload_n 0, 1) := dk_42 (dk_at dksX11_init_0 4 rfl rfl)
theorem dX11_init_5 : decode cX11_init 5 = .ok (.iload_n 1, 1) := dk_27 (dk_at dksX11_init_0 5 rfl rfl)
theorem dX11_init_6 : decode cX11_init 6 = .ok (.newarray .long, 2) := dk_188_11 (dk_at dksX11_init_0 6 rfl rfl)
theorem dX11_init_8 : decode cX11_init 8 = .ok (.putfield 7, 3) := dk_181 0 7 (dk_at dksX11_init_0 8 rfl rfl)
theorem dX11_init_11 : decode cX11_init 11 = .ok (.return_, 1) := dk_177 (dk_at dksX11_init_0 11 rfl rfl)
abbrev cX11_put : ByteArray := prog_9_method_4_code
def yX11_put : MethodName := ⟨RX11, "put", "(IJ)V"⟩
def dkwX11_put_0 : List UInt8 := [42, 180, 0, 7, 27, 32, 80, 177]
abbrev dktX11_put_0 : List UInt8 := dkwX11_put_0 ++ []
theorem dksX11_put_0 : cX11_put.data.toList.drop 0 = dktX11_put_0 := by decide +kernel
theorem dX11_put_0 : decode cX11_put 0 = .ok (.aload_n 0, 1) := dk_42 (dk_at dksX11_put_0 0 rfl rfl)
theorem dX11_put_1 : decode cX11_put 1 = .ok (.getfield 7, 3) := dk_180 0 7 (dk_at dksX11_put_0 1 rfl rfl)
theorem dX11_put_4 : decode cX11_put 4 = .ok (.iload_n 1, 1) := dk_27 (dk_at dksX11_put_0 4 rfl rfl)
theorem dX11_put_5 : decode cX11_put 5 = .ok (.lload_n 2, 1) := dk_32 (dk_at dksX11_put_0 5 rfl rfl)
theorem dX11_put_6 : decode cX11_put 6 = .ok (.lastore, 1) := dk_80 (dk_at dksX11_put_0 6 rfl rfl)
theorem dX11_put_7 : decode cX11_put 7 = .ok (.return_, 1) := dk_177 (dk_at dksX11_put_0 7 rfl rfl)
abbrev cX11_sort : ByteArray := prog_9_method_2_code
def yX11_sort : MethodName := ⟨RX11, "sort", "()I"⟩
theorem dX11_sort_0 : decode cX11_sort 0 = .ok (.iconst 3, 1) := by decide +kernel
theorem dX11_sort_1 : decode cX11_sort 1 = .ok (.ireturn, 1) := by decide +kernel
abbrev cX11_held : ByteArray := prog_9_method_8_code
def yX11_held : MethodName := ⟨RX11, "held", "()Ljava/lang/Object;"⟩
theorem dX11_held_0 : decode cX11_held 0 = .ok (.aload_n 0, 1) := by decide +kernel
theorem dX11_held_1 : decode cX11_held 1 = .ok (.getfield 7, 3) := by decide +kernel
theorem dX11_held_4 : decode cX11_held 4 = .ok (.areturn, 1) := by decide +kernel
abbrev cX11_get : ByteArray := prog_9_method_5_code
def yX11_get : MethodName := ⟨RX11, "get", "(I)J"⟩
def dkwX11_get_0 : List UInt8 := [42, 180, 0, 7, 27, 47, 173]
abbrev dktX11_get_0 : List UInt8 := dkwX11_get_0 ++ []
theorem dksX11_get_0 : cX11_get.data.toList.drop 0 = dktX11_get_0 := by decide +kernel
theorem dX11_get_0 : decode cX11_get 0 = .ok (.aload_n 0, 1) := dk_42 (dk_at dksX11_get_0 0 rfl rfl)
theorem dX11_get_1 : decode cX11_get 1 = .ok (.getfield 7, 3) := dk_180 0 7 (dk_at dksX11_get_0 1 rfl rfl)
theorem dX11_get_4 : decode cX11_get 4 = .ok (.iload_n 1, 1) := dk_27 (dk_at dksX11_get_0 4 rfl rfl)
theorem dX11_get_5 : decode cX11_get 5 = .ok (.laload, 1) := dk_47 (dk_at dksX11_get_0 5 rfl rfl)
theorem dX11_get_6 : decode cX11_get 6 = .ok (.lreturn, 1) := dk_173 (dk_at dksX11_get_0 6 rfl rfl)
abbrev cX11_length : ByteArray := prog_9_method_3_code
def yX11_length : MethodName := ⟨RX11, "length", "()I"⟩
def dkwX11_length_0 : List UInt8 := [42, 180, 0, 7, 190, 172]
abbrev dktX11_length_0 : List UInt8 := dkwX11_length_0 ++ []
theorem dksX11_length_0 : cX11_length.data.toList.drop 0 = dktX11_length_0 := by decide +kernel
theorem dX11_length_0 : decode cX11_length 0 = .ok (.aload_n 0, 1) := dk_42 (dk_at dksX11_length_0 0 rfl rfl)
theorem dX11_length_1 : decode cX11_length 1 = .ok (.getfield 7, 3) := dk_180 0 7 (dk_at dksX11_length_0 1 rfl rfl)
theorem dX11_length_4 : decode cX11_length 4 = .ok (.arraylength, 1) := dk_190 (dk_at dksX11_length_0 4 rfl rfl)
theorem dX11_length_5 : decode cX11_length 5 = .ok (.ireturn, 1) := dk_172 (dk_at dksX11_length_0 5 rfl rfl)
theorem q97 : (Jvm.Cond.initialized "NoFartherThanAThrow$Longs") ∈ lw_all := lw_g (lw_at lw_m1 19 rfl) rfl
theorem q470 : (Jvm.Cond.instantiable "NoFartherThanAThrow$Longs" (1 : Nat)) ∈ lw_all := lw_g (lw_at lw_m2 152 rfl) rfl
theorem q472 : (Jvm.Cond.instanceMethod ({ cls := "NoFartherThanAThrow$Longs", name := "<init>", desc := "(I)V" } : Jvm.MethodName)) ∈ lw_all := lw_g (lw_at lw_m2 154 rfl) rfl
theorem q473 : (Jvm.Cond.code ({ cls := "NoFartherThanAThrow$Longs", name := "<init>", desc := "(I)V" } : Jvm.MethodName) prog_9_method_1_code (2 : Nat) (Option.none : Option Jvm.ClassFile.FieldType)) ∈ lw_all := lw_g (lw_at lw_m2 155 rfl) rfl
theorem q474 : (Jvm.Cond.methodLink "NoFartherThanAThrow$Longs" (1 : Nat) ({ cls := "NoFartherThanAThrow$Row", name := "<init>", desc := "()V" } : Jvm.MethodName)) ∈ lw_all := lw_g (lw_at lw_m2 156 rfl) rfl
theorem q475 : (Jvm.Cond.fieldLink "NoFartherThanAThrow$Longs" (7 : Nat) "NoFartherThanAThrow$Longs" "e" "[J") ∈ lw_all := lw_g (lw_at lw_m2 157 rfl) rfl
theorem q476 : (Jvm.Cond.laysFinal "NoFartherThanAThrow$Longs" "NoFartherThanAThrow$Longs" "e" "[J") ∈ lw_all := lw_g (lw_at lw_m2 158 rfl) rfl
theorem q477 : (Jvm.Cond.soleField "NoFartherThanAThrow$Longs" "e") ∈ lw_all := lw_g (lw_at lw_m2 159 rfl) rfl
theorem q478 : (Jvm.Cond.superclass "NoFartherThanAThrow$Longs" "NoFartherThanAThrow$Row") ∈ lw_all := lw_g (lw_at lw_m2 160 rfl) rfl
theorem q519 : (Jvm.Cond.selects "NoFartherThanAThrow$Longs" ({ cls := "NoFartherThanAThrow$Row", name := "put", desc := "(IJ)V" } : Jvm.MethodName) ({ cls := "NoFartherThanAThrow$Longs", name := "put", desc := "(IJ)V" } : Jvm.MethodName)) ∈ lw_all := lw_g (lw_at lw_m2 201 rfl) rfl
theorem q520 : (Jvm.Cond.instanceMethod ({ cls := "NoFartherThanAThrow$Longs", name := "put", desc := "(IJ)V" } : Jvm.MethodName)) ∈ lw_all := lw_g (lw_at lw_m2 202 rfl) rfl
theorem q521 : (Jvm.Cond.code ({ cls := "NoFartherThanAThrow$Longs", name := "put", desc := "(IJ)V" } : Jvm.MethodName) prog_9_method_4_code (4 : Nat) (Option.none : Option Jvm.ClassFile.FieldType)) ∈ lw_all := lw_g (lw_at lw_m2 203 rfl) rfl
theorem q544 : (Jvm.Cond.selects "NoFartherThanAThrow$Longs" ({ cls := "NoFartherThanAThrow$Row", name := "sort", desc := "()I" } : Jvm.MethodName) ({ cls := "NoFartherThanAThrow$Longs", name := "sort", desc := "()I" } : Jvm.MethodName)) ∈ lw_all := lw_g (lw_at lw_m2 226 rfl) rfl
theorem q545 : (Jvm.Cond.instanceMethod ({ cls := "NoFartherThanAThrow$Longs", name := "sort", desc := "()I" } : Jvm.MethodName)) ∈ lw_all := lw_g (lw_at lw_m2 227 rfl) rfl
theorem q546 : (Jvm.Cond.code ({ cls := "NoFartherThanAThrow$Longs", name := "sort", desc := "()I" } : Jvm.MethodName) prog_9_method_2_code (1 : Nat) (Option.some Jvm.ClassFile.FieldType.int)) ∈ lw_all := lw_g (lw_at lw_m2 228 rfl) rfl
theorem q559 : (Jvm.Cond.selects "NoFartherThanAThrow$Longs" ({ cls := "NoFartherThanAThrow$Row", name := "held", desc := "()Ljava/lang/Object;" } : Jvm.MethodName) ({ cls := "NoFartherThanAThrow$Longs", name := "held", desc := "()Ljava/lang/Object;" } : Jvm.MethodName)) ∈ lw_all := lw_g (lw_at lw_m3 1 rfl) rfl
theorem q560 : (Jvm.Cond.instanceMethod ({ cls := "NoFartherThanAThrow$Longs", name := "held", desc := "()Ljava/lang/Object;" } : Jvm.MethodName)) ∈ lw_all := lw_g (lw_at lw_m3 2 rfl) rfl
theorem q561 : (Jvm.Cond.code ({ cls := "NoFartherThanAThrow$Longs", name := "held", desc := "()Ljava/lang/Object;" } : Jvm.MethodName) prog_9_method_8_code (1 : Nat) (Option.some (Jvm.ClassFile.FieldType.object "java/lang/Object"))) ∈ lw_all := lw_g (lw_at lw_m3 3 rfl) rfl
theorem q581 : (Jvm.Cond.selects "NoFartherThanAThrow$Longs" ({ cls := "NoFartherThanAThrow$Row", name := "get", desc := "(I)J" } : Jvm.MethodName) ({ cls := "NoFartherThanAThrow$Longs", name := "get", desc := "(I)J" } : Jvm.MethodName)) ∈ lw_all := lw_g (lw_at lw_m3 23 rfl) rfl
theorem q582 : (Jvm.Cond.instanceMethod ({ cls := "NoFartherThanAThrow$Longs", name := "get", desc := "(I)J" } : Jvm.MethodName)) ∈ lw_all := lw_g (lw_at lw_m3 24 rfl) rfl
theorem q583 : (Jvm.Cond.code ({ cls := "NoFartherThanAThrow$Longs", name := "get", desc := "(I)J" } : Jvm.MethodName) prog_9_method_5_code (2 : Nat) (Option.some Jvm.ClassFile.FieldType.long)) ∈ lw_all := lw_g (lw_at lw_m3 25 rfl) rfl
theorem q839 : (Jvm.Cond.selects "NoFartherThanAThrow$Longs" ({ cls := "NoFartherThanAThrow$Row", name := "length", desc := "()I" } : Jvm.MethodName) ({ cls := "NoFartherThanAThrow$Longs", name := "length", desc := "()I" } : Jvm.MethodName)) ∈ lw_all := lw_g (lw_at lw_m4 41 rfl) rfl
theorem q840 : (Jvm.Cond.instanceMethod ({ cls := "NoFartherThanAThrow$Longs", name := "length", desc := "()I" } : Jvm.MethodName)) ∈ lw_all := lw_g (lw_at lw_m4 42 rfl) rfl
theorem q841 : (Jvm.Cond.code ({ cls := "NoFartherThanAThrow$Longs", name := "length", desc := "()I" } : Jvm.MethodName) prog_9_method_3_code (1 : Nat) (Option.some Jvm.ClassFile.FieldType.int)) ∈ lw_all := lw_g (lw_at lw_m4 43 rfl) rfl
theorem q850 : (Jvm.Cond.selects "NoFartherThanAThrow$Longs" ({ cls := "NoFartherThanAThrow$Row", name := "asInt", desc := "(I)I" } : Jvm.MethodName) ({ cls := "NoFartherThanAThrow$Row", name := "asInt", desc := "(I)I" } : Jvm.MethodName)) ∈ lw_all := lw_g (lw_at lw_m4 52 rfl) rfl
theorem q1947 : (Jvm.Cond.castable "NoFartherThanAThrow$Longs" "NoFartherThanAThrow$Row") ∈ lw_tbl := lw_at lw_m8 189 rfl
theorem in_X11 : ∀ w ∈ wsX110, w ∈ lw_all := lw_in wsX110 [476] (by decide +kernel) (by decide +kernel)
/-! NoFartherThanAThrow$Thing -/
set_option maxRecDepth 100000
def RX12 : String := "NoFartherThanAThrow$Thing"
def TX12 : u_T := fun k => match k with
  | 0 => ("NoFartherThanAThrow$Thing", "index", "I", true)
  | 1 => ("NoFartherThanAThrow$Thing", "weight", "I", true)
  | _ => ("NoFartherThanAThrow$Thing", "extra", "I", true)
def tyX12 : Nat → FieldType := fun k => match k with
  | 0 => .int
  | 1 => .int
  | _ => .int
abbrev wsX120 : List Cond := u_ws RX12 TX12 3
theorem nmX12 : ∀ a, a < 3 → ∀ b, b < 3 → a ≠ b → (TX12 a).2.1 ≠ (TX12 b).2.1 := by decide +kernel
theorem tyX12_ok : ∀ k, k < 3 → parseFieldDescriptor (TX12 k).2.2.1 = some (tyX12 k) := by decide +kernel
abbrev cX12_far : ByteArray := prog_18_method_5_code
def yX12_far : MethodName := ⟨RX12, "far", "(II)I"⟩
def dkwX12_far_0 : List UInt8 := [16, 40, 42, 27, 182, 0, 31, 184, 0, 35, 172]
abbrev dktX12_far_0 : List UInt8 := dkwX12_far_0 ++ []
theorem dksX12_far_0 : cX12_far.data.toList.drop 0 = dktX12_far_0 := by decide +kernel
theorem dX12_far_0 : decode cX12_far 0 = .ok (.bipush 40, 2) := dk_16 40 (dk_at dksX12_far_0 0 rfl rfl)
theorem dX12_far_2 : decode cX12_far 2 = .ok (.aload_n 0, 1) := dk_42 (dk_at dksX12_far_0 2 rfl rfl)
theorem dX12_far_3 : decode cX12_far 3 = .ok (.iload_n 1, 1) := dk_27 (dk_at dksX12_far_0 3 rfl rfl)
theorem dX12_far_4 : decode cX12_far 4 = .ok (.invokevirtual 31, 3) := dk_182 0 31 (dk_at dksX12_far_0 4 rfl rfl)
theorem dX12_far_7 : decode cX12_far 7 = .ok (.invokestatic 35, 3) := dk_184 0 35 (dk_at dksX12_far_0 7 rfl rfl)
theorem dX12_far_10 : decode cX12_far 10 = .ok (.ireturn, 1) := dk_172 (dk_at dksX12_far_0 10 rfl rfl)
abbrev cX12_can : ByteArray := prog_18_method_4_code
def yX12_can : MethodName := ⟨RX12, "can", "(I)I"⟩
def dkwX12_can_0 : List UInt8 := [3, 27, 184, 0, 21, 16, 10, 104, 42, 182, 0, 27, 108, 172]
abbrev dktX12_can_0 : List UInt8 := dkwX12_can_0 ++ []
theorem dksX12_can_0 : cX12_can.data.toList.drop 0 = dktX12_can_0 := by decide +kernel
theorem dX12_can_0 : decode cX12_can 0 = .ok (.iconst 0, 1) := dk_3 (dk_at dksX12_can_0 0 rfl rfl)
theorem dX12_can_1 : decode cX12_can 1 = .ok (.iload_n 1, 1) := dk_27 (dk_at dksX12_can_0 1 rfl rfl)
theorem dX12_can_2 : decode cX12_can 2 = .ok (.invokestatic 21, 3) := dk_184 0 21 (dk_at dksX12_can_0 2 rfl rfl)
theorem dX12_can_5 : decode cX12_can 5 = .ok (.bipush 10, 2) := dk_16 10 (dk_at dksX12_can_0 5 rfl rfl)
theorem dX12_can_7 : decode cX12_can 7 = .ok (.imul, 1) := dk_104 (dk_at dksX12_can_0 7 rfl rfl)
theorem dX12_can_8 : decode cX12_can 8 = .ok (.aload_n 0, 1) := dk_42 (dk_at dksX12_can_0 8 rfl rfl)
theorem dX12_can_9 : decode cX12_can 9 = .ok (.invokevirtual 27, 3) := dk_182 0 27 (dk_at dksX12_can_0 9 rfl rfl)
theorem dX12_can_12 : decode cX12_can 12 = .ok (.idiv, 1) := dk_108 (dk_at dksX12_can_0 12 rfl rfl)
theorem dX12_can_13 : decode cX12_can 13 = .ok (.ireturn, 1) := dk_172 (dk_at dksX12_can_0 13 rfl rfl)
abbrev cX12_counts : ByteArray := prog_18_method_3_code
def yX12_counts : MethodName := ⟨RX12, "counts", "()I"⟩
theorem dX12_counts_0 : decode cX12_counts 0 = .ok (.aload_n 0, 1) := by decide +kernel
theorem dX12_counts_1 : decode cX12_counts 1 = .ok (.getfield 15, 3) := by decide +kernel
theorem dX12_counts_4 : decode cX12_counts 4 = .ok (.ireturn, 1) := by decide +kernel
abbrev cX12_said : ByteArray := prog_18_method_7_code
def yX12_said : MethodName := ⟨RX12, "said", "()I"⟩
theorem dX12_said_0 : decode cX12_said 0 = .ok (.aload_n 0, 1) := by decide +kernel
theorem dX12_said_1 : decode cX12_said 1 = .ok (.getfield 15, 3) := by decide +kernel
theorem dX12_said_4 : decode cX12_said 4 = .ok (.ireturn, 1) := by decide +kernel
abbrev cX12_init : ByteArray := prog_18_method_1_code
def yX12_init : MethodName := ⟨RX12, "<init>", "(III)V"⟩
def dkwX12_init_0 : List UInt8 := [42, 183, 0, 3, 42, 27, 181, 0, 9, 42, 28, 181, 0, 15, 42, 29, 181, 0, 18, 177]
abbrev dktX12_init_0 : List UInt8 := dkwX12_init_0 ++ []
theorem dksX12_init_0 : cX12_init.data.toList.drop 0 = dktX12_init_0 := by decide +kernel
theorem dX12_init_0 : decode cX12_init 0 = .ok (.aload_n 0, 1) := dk_42 (dk_at dksX12_init_0 0 rfl rfl)
theorem dX12_init_1 : decode cX12_init 1 = .ok (.invokespecial 3, 3) := dk_183 0 3 (dk_at dksX12_init_0 1 rfl rfl)
theorem dX12_init_4 : decode cX12_init 4 = .ok (.aload_n 0, 1) := dk_42 (dk_at dksX12_init_0 4 rfl rfl)
theorem dX12_init_5 : decode cX12_init 5 = .ok (.iload_n 1, 1) := dk_27 (dk_at dksX12_init_0 5 rfl rfl)
theorem dX12_init_6 : decode cX12_init 6 = .ok (.putfield 9, 3) := dk_181 0 9 (dk_at dksX12_init_0 6 rfl rfl)
theorem dX12_init_9 : decode cX12_init 9 = .ok (.aload_n 0, 1) := dk_42 (dk_at dksX12_init_0 9 rfl rfl)
theorem dX12_init_10 : decode cX12_init 10 = .ok (.iload_n 2, 1) := dk_28 (dk_at dksX12_init_0 10 rfl rfl)
theorem dX12_init_11 : decode cX12_init 11 = .ok (.putfield 15, 3) := dk_181 0 15 (dk_at dksX12_init_0 11 rfl rfl)
theorem dX12_init_14 : decode cX12_init 14 = .ok (.aload_n 0, 1) := dk_42 (dk_at dksX12_init_0 14 rfl rfl)
theorem dX12_init_15 : decode cX12_init 15 = .ok (.iload_n 3, 1) := dk_29 (dk_at dksX12_init_0 15 rfl rfl)
theorem dX12_init_16 : decode cX12_init 16 = .ok (.putfield 18, 3) := dk_181 0 18 (dk_at dksX12_init_0 16 rfl rfl)
theorem dX12_init_19 : decode cX12_init 19 = .ok (.return_, 1) := dk_177 (dk_at dksX12_init_0 19 rfl rfl)
abbrev cX12_kind : ByteArray := prog_18_method_2_code
def yX12_kind : MethodName := ⟨RX12, "kind", "()I"⟩
theorem dX12_kind_0 : decode cX12_kind 0 = .ok (.iconst 0, 1) := by decide +kernel
theorem dX12_kind_1 : decode cX12_kind 1 = .ok (.ireturn, 1) := by decide +kernel
abbrev cX12_breaks : ByteArray := prog_18_method_6_code
def yX12_breaks : MethodName := ⟨RX12, "breaks", "()Z"⟩
theorem dX12_breaks_0 : decode cX12_breaks 0 = .ok (.iconst 0, 1) := by decide +kernel
theorem dX12_breaks_1 : decode cX12_breaks 1 = .ok (.ireturn, 1) := by decide +kernel
abbrev cX12_going : ByteArray := prog_18_method_8_code
def yX12_going : MethodName := ⟨RX12, "going", "(ILNoFartherThanAThrow$Trace;)I"⟩
def dkwX12_going_0 : List UInt8 := [44, 16, 10, 182, 0, 38, 27, 42, 180, 0, 9, 96, 172]
abbrev dktX12_going_0 : List UInt8 := dkwX12_going_0 ++ []
theorem dksX12_going_0 : cX12_going.data.toList.drop 0 = dktX12_going_0 := by decide +kernel
theorem dX12_going_0 : decode cX12_going 0 = .ok (.aload_n 2, 1) := dk_44 (dk_at dksX12_going_0 0 rfl rfl)
theorem dX12_going_1 : decode cX12_going 1 = .ok (.bipush 10, 2) := dk_16 10 (dk_at dksX12_going_0 1 rfl rfl)
theorem dX12_going_3 : decode cX12_going 3 = .ok (.invokevirtual 38, 3) := dk_182 0 38 (dk_at dksX12_going_0 3 rfl rfl)
theorem dX12_going_6 : decode cX12_going 6 = .ok (.iload_n 1, 1) := dk_27 (dk_at dksX12_going_0 6 rfl rfl)
theorem dX12_going_7 : decode cX12_going 7 = .ok (.aload_n 0, 1) := dk_42 (dk_at dksX12_going_0 7 rfl rfl)
theorem dX12_going_8 : decode cX12_going 8 = .ok (.getfield 9, 3) := dk_180 0 9 (dk_at dksX12_going_0 8 rfl rfl)
theorem dX12_going_11 : decode cX12_going 11 = .ok (.iadd, 1) := dk_96 (dk_at dksX12_going_0 11 rfl rfl)
theorem dX12_going_12 : decode cX12_going 12 = .ok (.ireturn, 1) := dk_172 (dk_at dksX12_going_0 12 rfl rfl)
abbrev cX12_resting : ByteArray := prog_18_method_9_code
def yX12_resting : MethodName := ⟨RX12, "resting", "(ILNoFartherThanAThrow$Trace;)I"⟩
def dkwX12_resting_0 : List UInt8 := [44, 16, 11, 182, 0, 38, 42, 27, 44, 182, 0, 44, 5, 104, 172]
abbrev dktX12_resting_0 : List UInt8 := dkwX12_resting_0 ++ []
theorem dksX12_resting_0 : cX12_resting.data.toList.drop 0 = dktX12_resting_0 := by decide +kernel
theorem dX12_resting_0 : decode cX12_resting 0 = .ok (.aload_n 2, 1) := dk_44 (dk_at dksX12_resting_0 0 rfl rfl)
theorem dX12_resting_1 : decode cX12_resting 1 = .ok (.bipush 11, 2) := dk_16 11 (dk_at dksX12_resting_0 1 rfl rfl)
theorem dX12_resting_3 : decode cX12_resting 3 = .ok (.invokevirtual 38, 3) := dk_182 0 38 (dk_at dksX12_resting_0 3 rfl rfl)
theorem dX12_resting_6 : decode cX12_resting 6 = .ok (.aload_n 0, 1) := dk_42 (dk_at dksX12_resting_0 6 rfl rfl)
theorem dX12_resting_7 : decode cX12_resting 7 = .ok (.iload_n 1, 1) := dk_27 (dk_at dksX12_resting_0 7 rfl rfl)
theorem dX12_resting_8 : decode cX12_resting 8 = .ok (.aload_n 2, 1) := dk_44 (dk_at dksX12_resting_0 8 rfl rfl)
theorem dX12_resting_9 : decode cX12_resting 9 = .ok (.invokevirtual 44, 3) := dk_182 0 44 (dk_at dksX12_resting_0 9 rfl rfl)
theorem dX12_resting_12 : decode cX12_resting 12 = .ok (.iconst 2, 1) := dk_5 (dk_at dksX12_resting_0 12 rfl rfl)
theorem dX12_resting_13 : decode cX12_resting 13 = .ok (.imul, 1) := dk_104 (dk_at dksX12_resting_0 13 rfl rfl)
theorem dX12_resting_14 : decode cX12_resting 14 = .ok (.ireturn, 1) := dk_172 (dk_at dksX12_resting_0 14 rfl rfl)
abbrev cX12_falling : ByteArray := prog_18_method_10_code
def yX12_falling : MethodName := ⟨RX12, "falling", "(ILNoFartherThanAThrow$Trace;)I"⟩
def dkwX12_falling_1 : List UInt8 := [182, 0, 44, 130, 172]
abbrev dktX12_falling_1 : List UInt8 := dkwX12_falling_1 ++ []
def dkwX12_falling_0 : List UInt8 := [44, 16, 12, 182, 0, 38, 42, 27, 44, 182, 0, 48, 62, 29, 42, 27, 42, 180, 0, 15, 100, 44]
abbrev dktX12_falling_0 : List UInt8 := dkwX12_falling_0 ++ dktX12_falling_1
theorem dksX12_falling_0 : cX12_falling.data.toList.drop 0 = dktX12_falling_0 := by decide +kernel
theorem dksX12_falling_1 : cX12_falling.data.toList.drop 22 = dktX12_falling_1 := dk_seg dksX12_falling_0 22 rfl rfl
theorem dX12_falling_0 : decode cX12_falling 0 = .ok (.aload_n 2, 1) := dk_44 (dk_at dksX12_falling_0 0 rfl rfl)
theorem dX12_falling_1 : decode cX12_falling 1 = .ok (.bipush 12, 2) := dk_16 12 (dk_at dksX12_falling_0 1 rfl rfl)
theorem dX12_falling_3 : decode cX12_falling 3 = .ok (.invokevirtual 38, 3) := dk_182 0 38 (dk_at dksX12_falling_0 3 rfl rfl)
theorem dX12_falling_6 : decode cX12_falling 6 = .ok (.aload_n 0, 1) := dk_42 (dk_at dksX12_falling_0 6 rfl rfl)
theorem dX12_falling_7 : decode cX12_falling 7 = .ok (.iload_n 1, 1) := dk_27 (dk_at dksX12_falling_0 7 rfl rfl)
theorem dX12_falling_8 : decode cX12_falling 8 = .ok (.aload_n 2, 1) := dk_44 (dk_at dksX12_falling_0 8 rfl rfl)
theorem dX12_falling_9 : decode cX12_falling 9 = .ok (.invokevirtual 48, 3) := dk_182 0 48 (dk_at dksX12_falling_0 9 rfl rfl)
theorem dX12_falling_12 : decode cX12_falling 12 = .ok (.istore_n 3, 1) := dk_62 (dk_at dksX12_falling_0 12 rfl rfl)
theorem dX12_falling_13 : decode cX12_falling 13 = .ok (.iload_n 3, 1) := dk_29 (dk_at dksX12_falling_0 13 rfl rfl)
theorem dX12_falling_14 : decode cX12_falling 14 = .ok (.aload_n 0, 1) := dk_42 (dk_at dksX12_falling_0 14 rfl rfl)
theorem dX12_falling_15 : decode cX12_falling 15 = .ok (.iload_n 1, 1) := dk_27 (dk_at dksX12_falling_0 15 rfl rfl)
theorem dX12_falling_16 : decode cX12_falling 16 = .ok (.aload_n 0, 1) := dk_42 (dk_at dksX12_falling_0 16 rfl rfl)
theorem dX12_falling_17 : decode cX12_falling 17 = .ok (.getfield 15, 3) := dk_180 0 15 (dk_at dksX12_falling_0 17 rfl rfl)
theorem dX12_falling_20 : decode cX12_falling 20 = .ok (.isub, 1) := dk_100 (dk_at dksX12_falling_0 20 rfl rfl)
theorem dX12_falling_21 : decode cX12_falling 21 = .ok (.aload_n 2, 1) := dk_44 (dk_at dksX12_falling_0 21 rfl rfl)
theorem dX12_falling_22 : decode cX12_falling 22 = .ok (.invokevirtual 44, 3) := dk_182 0 44 (dk_at dksX12_falling_1 0 rfl rfl)
theorem dX12_falling_25 : decode cX12_falling 25 = .ok (.ixor, 1) := dk_130 (dk_at dksX12_falling_1 3 rfl rfl)
theorem dX12_falling_26 : decode cX12_falling 26 = .ok (.ireturn, 1) := dk_172 (dk_at dksX12_falling_1 4 rfl rfl)
theorem q101 : (Jvm.Cond.initialized "NoFartherThanAThrow$Thing") ∈ lw_all := lw_g (lw_at lw_m1 23 rfl) rfl
theorem q635 : (Jvm.Cond.instanceMethod ({ cls := "NoFartherThanAThrow$Thing", name := "far", desc := "(II)I" } : Jvm.MethodName)) ∈ lw_all := lw_g (lw_at lw_m3 77 rfl) rfl
theorem q636 : (Jvm.Cond.code ({ cls := "NoFartherThanAThrow$Thing", name := "far", desc := "(II)I" } : Jvm.MethodName) prog_18_method_5_code (3 : Nat) (Option.some Jvm.ClassFile.FieldType.int)) ∈ lw_all := lw_g (lw_at lw_m3 78 rfl) rfl
theorem q637 : (Jvm.Cond.methodLink "NoFartherThanAThrow$Thing" (31 : Nat) ({ cls := "NoFartherThanAThrow$Thing", name := "can", desc := "(I)I" } : Jvm.MethodName)) ∈ lw_all := lw_g (lw_at lw_m3 79 rfl) rfl
theorem q638 : (Jvm.Cond.instanceMethod ({ cls := "NoFartherThanAThrow$Thing", name := "can", desc := "(I)I" } : Jvm.MethodName)) ∈ lw_all := lw_g (lw_at lw_m3 80 rfl) rfl
theorem q639 : (Jvm.Cond.selects "NoFartherThanAThrow$Thing" ({ cls := "NoFartherThanAThrow$Thing", name := "can", desc := "(I)I" } : Jvm.MethodName) ({ cls := "NoFartherThanAThrow$Thing", name := "can", desc := "(I)I" } : Jvm.MethodName)) ∈ lw_all := lw_g (lw_at lw_m3 81 rfl) rfl
theorem q640 : (Jvm.Cond.sameMethod "NoFartherThanAThrow$Thing" "NoFartherThanAThrow$Thing" "can" "(I)I") ∈ lw_all := lw_g (lw_at lw_m3 82 rfl) rfl
theorem q647 : (Jvm.Cond.code ({ cls := "NoFartherThanAThrow$Thing", name := "can", desc := "(I)I" } : Jvm.MethodName) prog_18_method_4_code (2 : Nat) (Option.some Jvm.ClassFile.FieldType.int)) ∈ lw_all := lw_g (lw_at lw_m3 89 rfl) rfl
theorem q648 : (Jvm.Cond.methodLink "NoFartherThanAThrow$Thing" (21 : Nat) ({ cls := "java/lang/Math", name := "max", desc := "(II)I" } : Jvm.MethodName)) ∈ lw_all := lw_g (lw_at lw_m3 90 rfl) rfl
theorem q651 : (Jvm.Cond.methodLink "NoFartherThanAThrow$Thing" (27 : Nat) ({ cls := "NoFartherThanAThrow$Thing", name := "counts", desc := "()I" } : Jvm.MethodName)) ∈ lw_all := lw_g (lw_at lw_m3 93 rfl) rfl
theorem q652 : (Jvm.Cond.instanceMethod ({ cls := "NoFartherThanAThrow$Thing", name := "counts", desc := "()I" } : Jvm.MethodName)) ∈ lw_all := lw_g (lw_at lw_m3 94 rfl) rfl
theorem q653 : (Jvm.Cond.selects "NoFartherThanAThrow$Thing" ({ cls := "NoFartherThanAThrow$Thing", name := "counts", desc := "()I" } : Jvm.MethodName) ({ cls := "NoFartherThanAThrow$Thing", name := "counts", desc := "()I" } : Jvm.MethodName)) ∈ lw_all := lw_g (lw_at lw_m3 95 rfl) rfl
theorem q654 : (Jvm.Cond.sameMethod "NoFartherThanAThrow$Thing" "NoFartherThanAThrow$Thing" "counts" "()I") ∈ lw_all := lw_g (lw_at lw_m3 96 rfl) rfl
theorem q664 : (Jvm.Cond.declares ({ cls := "NoFartherThanAThrow$Thing", name := "counts", desc := "()I" } : Jvm.MethodName)) ∈ lw_tbl := lw_at lw_m3 106 rfl
theorem q668 : (Jvm.Cond.code ({ cls := "NoFartherThanAThrow$Thing", name := "counts", desc := "()I" } : Jvm.MethodName) prog_18_method_3_code (1 : Nat) (Option.some Jvm.ClassFile.FieldType.int)) ∈ lw_all := lw_g (lw_at lw_m3 110 rfl) rfl
theorem q669 : (Jvm.Cond.methodLink "NoFartherThanAThrow$Thing" (35 : Nat) ({ cls := "java/lang/Math", name := "min", desc := "(II)I" } : Jvm.MethodName)) ∈ lw_all := lw_g (lw_at lw_m3 111 rfl) rfl
theorem q689 : (Jvm.Cond.instanceMethod ({ cls := "NoFartherThanAThrow$Thing", name := "said", desc := "()I" } : Jvm.MethodName)) ∈ lw_all := lw_g (lw_at lw_m3 131 rfl) rfl
theorem q690 : (Jvm.Cond.selects "NoFartherThanAThrow$Thing" ({ cls := "NoFartherThanAThrow$Thing", name := "said", desc := "()I" } : Jvm.MethodName) ({ cls := "NoFartherThanAThrow$Thing", name := "said", desc := "()I" } : Jvm.MethodName)) ∈ lw_all := lw_g (lw_at lw_m3 132 rfl) rfl
theorem q691 : (Jvm.Cond.sameMethod "NoFartherThanAThrow$Thing" "NoFartherThanAThrow$Thing" "said" "()I") ∈ lw_all := lw_g (lw_at lw_m3 133 rfl) rfl
theorem q698 : (Jvm.Cond.code ({ cls := "NoFartherThanAThrow$Thing", name := "said", desc := "()I" } : Jvm.MethodName) prog_18_method_7_code (1 : Nat) (Option.some Jvm.ClassFile.FieldType.int)) ∈ lw_all := lw_g (lw_at lw_m3 140 rfl) rfl
theorem q731 : (Jvm.Cond.instanceMethod ({ cls := "NoFartherThanAThrow$Thing", name := "<init>", desc := "(III)V" } : Jvm.MethodName)) ∈ lw_all := lw_g (lw_at lw_m3 173 rfl) rfl
theorem q732 : (Jvm.Cond.code ({ cls := "NoFartherThanAThrow$Thing", name := "<init>", desc := "(III)V" } : Jvm.MethodName) prog_18_method_1_code (4 : Nat) (Option.none : Option Jvm.ClassFile.FieldType)) ∈ lw_all := lw_g (lw_at lw_m3 174 rfl) rfl
theorem q733 : (Jvm.Cond.methodLink "NoFartherThanAThrow$Thing" (3 : Nat) ({ cls := "java/lang/Object", name := "<init>", desc := "()V" } : Jvm.MethodName)) ∈ lw_all := lw_g (lw_at lw_m3 175 rfl) rfl
theorem q734 : (Jvm.Cond.fieldLink "NoFartherThanAThrow$Thing" (9 : Nat) "NoFartherThanAThrow$Thing" "index" "I") ∈ lw_all := lw_g (lw_at lw_m3 176 rfl) rfl
theorem q740 : (Jvm.Cond.fieldLink "NoFartherThanAThrow$Thing" (15 : Nat) "NoFartherThanAThrow$Thing" "weight" "I") ∈ lw_all := lw_g (lw_at lw_m3 182 rfl) rfl
theorem q747 : (Jvm.Cond.fieldLink "NoFartherThanAThrow$Thing" (18 : Nat) "NoFartherThanAThrow$Thing" "extra" "I") ∈ lw_all := lw_g (lw_at lw_m3 189 rfl) rfl
theorem q756 : (Jvm.Cond.soleField "NoFartherThanAThrow$Thing" "index") ∈ lw_all := lw_g (lw_at lw_m3 198 rfl) rfl
theorem q758 : (Jvm.Cond.soleField "NoFartherThanAThrow$Thing" "weight") ∈ lw_all := lw_g (lw_at lw_m3 200 rfl) rfl
theorem q760 : (Jvm.Cond.soleField "NoFartherThanAThrow$Thing" "extra") ∈ lw_all := lw_g (lw_at lw_m3 202 rfl) rfl
theorem q808 : (Jvm.Cond.instantiable "NoFartherThanAThrow$Thing" (3 : Nat)) ∈ lw_all := lw_g (lw_at lw_m4 10 rfl) rfl
theorem q810 : (Jvm.Cond.laysFinal "NoFartherThanAThrow$Thing" "NoFartherThanAThrow$Thing" "index" "I") ∈ lw_all := lw_g (lw_at lw_m4 12 rfl) rfl
theorem q811 : (Jvm.Cond.laysFinal "NoFartherThanAThrow$Thing" "NoFartherThanAThrow$Thing" "weight" "I") ∈ lw_all := lw_g (lw_at lw_m4 13 rfl) rfl
theorem q812 : (Jvm.Cond.laysFinal "NoFartherThanAThrow$Thing" "NoFartherThanAThrow$Thing" "extra" "I") ∈ lw_all := lw_g (lw_at lw_m4 14 rfl) rfl
theorem q813 : (Jvm.Cond.superclass "NoFartherThanAThrow$Thing" "java/lang/Object") ∈ lw_all := lw_g (lw_at lw_m4 15 rfl) rfl
theorem q889 : (Jvm.Cond.instanceMethod ({ cls := "NoFartherThanAThrow$Thing", name := "kind", desc := "()I" } : Jvm.MethodName)) ∈ lw_all := lw_g (lw_at lw_m4 91 rfl) rfl
theorem q890 : (Jvm.Cond.selects "NoFartherThanAThrow$Thing" ({ cls := "NoFartherThanAThrow$Thing", name := "kind", desc := "()I" } : Jvm.MethodName) ({ cls := "NoFartherThanAThrow$Thing", name := "kind", desc := "()I" } : Jvm.MethodName)) ∈ lw_all := lw_g (lw_at lw_m4 92 rfl) rfl
theorem q891 : (Jvm.Cond.sameMethod "NoFartherThanAThrow$Thing" "NoFartherThanAThrow$Thing" "kind" "()I") ∈ lw_all := lw_g (lw_at lw_m4 93 rfl) rfl
theorem q910 : (Jvm.Cond.code ({ cls := "NoFartherThanAThrow$Thing", name := "kind", desc := "()I" } : Jvm.MethodName) prog_18_method_2_code (1 : Nat) (Option.some Jvm.ClassFile.FieldType.int)) ∈ lw_all := lw_g (lw_at lw_m4 112 rfl) rfl
theorem q1103 : (Jvm.Cond.declares ({ cls := "NoFartherThanAThrow$Thing", name := "can", desc := "(I)I" } : Jvm.MethodName)) ∈ lw_tbl := lw_at lw_m5 65 rfl
theorem q1272 : (Jvm.Cond.instanceMethod ({ cls := "NoFartherThanAThrow$Thing", name := "breaks", desc := "()Z" } : Jvm.MethodName)) ∈ lw_all := lw_g (lw_at lw_m5 234 rfl) rfl
theorem q1273 : (Jvm.Cond.selects "NoFartherThanAThrow$Thing" ({ cls := "NoFartherThanAThrow$Thing", name := "breaks", desc := "()Z" } : Jvm.MethodName) ({ cls := "NoFartherThanAThrow$Thing", name := "breaks", desc := "()Z" } : Jvm.MethodName)) ∈ lw_all := lw_g (lw_at lw_m5 235 rfl) rfl
theorem q1274 : (Jvm.Cond.sameMethod "NoFartherThanAThrow$Thing" "NoFartherThanAThrow$Thing" "breaks" "()Z") ∈ lw_all := lw_g (lw_at lw_m5 236 rfl) rfl
theorem q1284 : (Jvm.Cond.code ({ cls := "NoFartherThanAThrow$Thing", name := "breaks", desc := "()Z" } : Jvm.MethodName) prog_18_method_6_code (1 : Nat) (Option.some Jvm.ClassFile.FieldType.boolean)) ∈ lw_all := lw_g (lw_at lw_m6 6 rfl) rfl
theorem q1309 : (Jvm.Cond.instanceMethod ({ cls := "NoFartherThanAThrow$Thing", name := "going", desc := "(ILNoFartherThanAThrow$Trace;)I" } : Jvm.MethodName)) ∈ lw_all := lw_g (lw_at lw_m6 31 rfl) rfl
theorem q1310 : (Jvm.Cond.selects "NoFartherThanAThrow$Thing" ({ cls := "NoFartherThanAThrow$Thing", name := "going", desc := "(ILNoFartherThanAThrow$Trace;)I" } : Jvm.MethodName) ({ cls := "NoFartherThanAThrow$Thing", name := "going", desc := "(ILNoFartherThanAThrow$Trace;)I" } : Jvm.MethodName)) ∈ lw_all := lw_g (lw_at lw_m6 32 rfl) rfl
theorem q1311 : (Jvm.Cond.sameMethod "NoFartherThanAThrow$Thing" "NoFartherThanAThrow$Thing" "going" "(ILNoFartherThanAThrow$Trace;)I") ∈ lw_all := lw_g (lw_at lw_m6 33 rfl) rfl
theorem q1333 : (Jvm.Cond.code ({ cls := "NoFartherThanAThrow$Thing", name := "going", desc := "(ILNoFartherThanAThrow$Trace;)I" } : Jvm.MethodName) prog_18_method_8_code (3 : Nat) (Option.some Jvm.ClassFile.FieldType.int)) ∈ lw_all := lw_g (lw_at lw_m6 55 rfl) rfl
theorem q1334 : (Jvm.Cond.methodLink "NoFartherThanAThrow$Thing" (38 : Nat) ({ cls := "NoFartherThanAThrow$Trace", name := "runs", desc := "(I)V" } : Jvm.MethodName)) ∈ lw_all := lw_g (lw_at lw_m6 56 rfl) rfl
theorem q1336 : (Jvm.Cond.instanceMethod ({ cls := "NoFartherThanAThrow$Thing", name := "resting", desc := "(ILNoFartherThanAThrow$Trace;)I" } : Jvm.MethodName)) ∈ lw_all := lw_g (lw_at lw_m6 58 rfl) rfl
theorem q1337 : (Jvm.Cond.selects "NoFartherThanAThrow$Thing" ({ cls := "NoFartherThanAThrow$Thing", name := "resting", desc := "(ILNoFartherThanAThrow$Trace;)I" } : Jvm.MethodName) ({ cls := "NoFartherThanAThrow$Thing", name := "resting", desc := "(ILNoFartherThanAThrow$Trace;)I" } : Jvm.MethodName)) ∈ lw_all := lw_g (lw_at lw_m6 59 rfl) rfl
theorem q1338 : (Jvm.Cond.sameMethod "NoFartherThanAThrow$Thing" "NoFartherThanAThrow$Thing" "resting" "(ILNoFartherThanAThrow$Trace;)I") ∈ lw_all := lw_g (lw_at lw_m6 60 rfl) rfl
theorem q1357 : (Jvm.Cond.declares ({ cls := "NoFartherThanAThrow$Thing", name := "resting", desc := "(ILNoFartherThanAThrow$Trace;)I" } : Jvm.MethodName)) ∈ lw_tbl := lw_at lw_m6 79 rfl
theorem q1359 : (Jvm.Cond.code ({ cls := "NoFartherThanAThrow$Thing", name := "resting", desc := "(ILNoFartherThanAThrow$Trace;)I" } : Jvm.MethodName) prog_18_method_9_code (3 : Nat) (Option.some Jvm.ClassFile.FieldType.int)) ∈ lw_all := lw_g (lw_at lw_m6 81 rfl) rfl
theorem q1360 : (Jvm.Cond.methodLink "NoFartherThanAThrow$Thing" (44 : Nat) ({ cls := "NoFartherThanAThrow$Thing", name := "going", desc := "(ILNoFartherThanAThrow$Trace;)I" } : Jvm.MethodName)) ∈ lw_all := lw_g (lw_at lw_m6 82 rfl) rfl
theorem q1362 : (Jvm.Cond.instanceMethod ({ cls := "NoFartherThanAThrow$Thing", name := "falling", desc := "(ILNoFartherThanAThrow$Trace;)I" } : Jvm.MethodName)) ∈ lw_all := lw_g (lw_at lw_m6 84 rfl) rfl
theorem q1363 : (Jvm.Cond.selects "NoFartherThanAThrow$Thing" ({ cls := "NoFartherThanAThrow$Thing", name := "falling", desc := "(ILNoFartherThanAThrow$Trace;)I" } : Jvm.MethodName) ({ cls := "NoFartherThanAThrow$Thing", name := "falling", desc := "(ILNoFartherThanAThrow$Trace;)I" } : Jvm.MethodName)) ∈ lw_all := lw_g (lw_at lw_m6 85 rfl) rfl
theorem q1364 : (Jvm.Cond.sameMethod "NoFartherThanAThrow$Thing" "NoFartherThanAThrow$Thing" "falling" "(ILNoFartherThanAThrow$Trace;)I") ∈ lw_all := lw_g (lw_at lw_m6 86 rfl) rfl
theorem q1378 : (Jvm.Cond.declares ({ cls := "NoFartherThanAThrow$Thing", name := "falling", desc := "(ILNoFartherThanAThrow$Trace;)I" } : Jvm.MethodName)) ∈ lw_tbl := lw_at lw_m6 100 rfl
theorem q1379 : (Jvm.Cond.code ({ cls := "NoFartherThanAThrow$Thing", name := "falling", desc := "(ILNoFartherThanAThrow$Trace;)I" } : Jvm.MethodName) prog_18_method_10_code (4 : Nat) (Option.some Jvm.ClassFile.FieldType.int)) ∈ lw_all := lw_g (lw_at lw_m6 101 rfl) rfl
theorem q1380 : (Jvm.Cond.methodLink "NoFartherThanAThrow$Thing" (48 : Nat) ({ cls := "NoFartherThanAThrow$Thing", name := "resting", desc := "(ILNoFartherThanAThrow$Trace;)I" } : Jvm.MethodName)) ∈ lw_all := lw_g (lw_at lw_m6 102 rfl) rfl
theorem q1932 : (Jvm.Cond.sameMethod "NoFartherThanAThrow$Thing" "NoFartherThanAThrow$Thing" "far" "(II)I") ∈ lw_all := lw_g (lw_at lw_m8 174 rfl) rfl
theorem q1941 : (Jvm.Cond.selects "NoFartherThanAThrow$Thing" ({ cls := "NoFartherThanAThrow$Thing", name := "far", desc := "(II)I" } : Jvm.MethodName) ({ cls := "NoFartherThanAThrow$Thing", name := "far", desc := "(II)I" } : Jvm.MethodName)) ∈ lw_all := lw_g (lw_at lw_m8 183 rfl) rfl
theorem in_X12 : ∀ w ∈ wsX120, w ∈ lw_all := lw_in wsX120 [810, 811, 812] (by decide +kernel) (by decide +kernel)
/-! NoFartherThanAThrow$Heavy -/
set_option maxRecDepth 100000
def RX13 : String := "NoFartherThanAThrow$Heavy"
def TX13 : u_T := fun k => match k with
  | 0 => ("NoFartherThanAThrow$Thing", "index", "I", true)
  | 1 => ("NoFartherThanAThrow$Thing", "weight", "I", true)
  | _ => ("NoFartherThanAThrow$Thing", "extra", "I", true)
def tyX13 : Nat → FieldType := fun k => match k with
  | 0 => .int
  | 1 => .int
  | _ => .int
abbrev wsX130 : List Cond := u_ws RX13 TX13 3
theorem nmX13 : ∀ a, a < 3 → ∀ b, b < 3 → a ≠ b → (TX13 a).2.1 ≠ (TX13 b).2.1 := by decide +kernel
theorem tyX13_ok : ∀ k, k < 3 → parseFieldDescriptor (TX13 k).2.2.1 = some (tyX13 k) := by decide +kernel
abbrev cX13_more : ByteArray := prog_6_method_4_code
def yX13_more : MethodName := ⟨RX13, "more", "()I"⟩
theorem dX13_more_0 : decode cX13_more 0 = .ok (.aload_n 0, 1) := by decide +kernel
theorem dX13_more_1 : decode cX13_more 1 = .ok (.getfield 21, 3) := by decide +kernel
theorem dX13_more_4 : decode cX13_more 4 = .ok (.ireturn, 1) := by decide +kernel
abbrev cX13_init : ByteArray := prog_6_method_1_code
def yX13_init : MethodName := ⟨RX13, "<init>", "(III)V"⟩
def dkwX13_init_0 : List UInt8 := [42, 27, 28, 29, 183, 0, 3, 177]
abbrev dktX13_init_0 : List UInt8 := dkwX13_init_0 ++ []
theorem dksX13_init_0 : cX13_init.data.toList.drop 0 = dktX13_init_0 := by decide +kernel
theorem dX13_init_0 : decode cX13_init 0 = .ok (.aload_n 0, 1) := dk_42 (dk_at dksX13_init_0 0 rfl rfl)
theorem dX13_init_1 : decode cX13_init 1 = .ok (.iload_n 1, 1) := dk_27 (dk_at dksX13_init_0 1 rfl rfl)
theorem dX13_init_2 : decode cX13_init 2 = .ok (.iload_n 2, 1) := dk_28 (dk_at dksX13_init_0 2 rfl rfl)
theorem dX13_init_3 : decode cX13_init 3 = .ok (.iload_n 3, 1) := dk_29 (dk_at dksX13_init_0 3 rfl rfl)
theorem dX13_init_4 : decode cX13_init 4 = .ok (.invokespecial 3, 3) := dk_183 0 3 (dk_at dksX13_init_0 4 rfl rfl)
theorem dX13_init_7 : decode cX13_init 7 = .ok (.return_, 1) := dk_177 (dk_at dksX13_init_0 7 rfl rfl)
abbrev cX13_kind : ByteArray := prog_6_method_2_code
def yX13_kind : MethodName := ⟨RX13, "kind", "()I"⟩
theorem dX13_kind_0 : decode cX13_kind 0 = .ok (.iconst 1, 1) := by decide +kernel
theorem dX13_kind_1 : decode cX13_kind 1 = .ok (.ireturn, 1) := by decide +kernel
abbrev cX13_far : ByteArray := prog_6_method_3_code
def yX13_far : MethodName := ⟨RX13, "far", "(II)I"⟩
def dkwX13_far_0 : List UInt8 := [16, 40, 42, 27, 182, 0, 9, 5, 108, 184, 0, 15, 172]
abbrev dktX13_far_0 : List UInt8 := dkwX13_far_0 ++ []
theorem dksX13_far_0 : cX13_far.data.toList.drop 0 = dktX13_far_0 := by decide +kernel
theorem dX13_far_0 : decode cX13_far 0 = .ok (.bipush 40, 2) := dk_16 40 (dk_at dksX13_far_0 0 rfl rfl)
theorem dX13_far_2 : decode cX13_far 2 = .ok (.aload_n 0, 1) := dk_42 (dk_at dksX13_far_0 2 rfl rfl)
theorem dX13_far_3 : decode cX13_far 3 = .ok (.iload_n 1, 1) := dk_27 (dk_at dksX13_far_0 3 rfl rfl)
theorem dX13_far_4 : decode cX13_far 4 = .ok (.invokevirtual 9, 3) := dk_182 0 9 (dk_at dksX13_far_0 4 rfl rfl)
theorem dX13_far_7 : decode cX13_far 7 = .ok (.iconst 2, 1) := dk_5 (dk_at dksX13_far_0 7 rfl rfl)
theorem dX13_far_8 : decode cX13_far 8 = .ok (.idiv, 1) := dk_108 (dk_at dksX13_far_0 8 rfl rfl)
theorem dX13_far_9 : decode cX13_far 9 = .ok (.invokestatic 15, 3) := dk_184 0 15 (dk_at dksX13_far_0 9 rfl rfl)
theorem dX13_far_12 : decode cX13_far 12 = .ok (.ireturn, 1) := dk_172 (dk_at dksX13_far_0 12 rfl rfl)
abbrev cX13_going : ByteArray := prog_6_method_5_code
def yX13_going : MethodName := ⟨RX13, "going", "(ILNoFartherThanAThrow$Trace;)I"⟩
def dkwX13_going_0 : List UInt8 := [44, 16, 20, 182, 0, 25, 42, 27, 44, 183, 0, 31, 42, 180, 0, 35, 96, 172]
abbrev dktX13_going_0 : List UInt8 := dkwX13_going_0 ++ []
theorem dksX13_going_0 : cX13_going.data.toList.drop 0 = dktX13_going_0 := by decide +kernel
theorem dX13_going_0 : decode cX13_going 0 = .ok (.aload_n 2, 1) := dk_44 (dk_at dksX13_going_0 0 rfl rfl)
theorem dX13_going_1 : decode cX13_going 1 = .ok (.bipush 20, 2) := dk_16 20 (dk_at dksX13_going_0 1 rfl rfl)
theorem dX13_going_3 : decode cX13_going 3 = .ok (.invokevirtual 25, 3) := dk_182 0 25 (dk_at dksX13_going_0 3 rfl rfl)
theorem dX13_going_6 : decode cX13_going 6 = .ok (.aload_n 0, 1) := dk_42 (dk_at dksX13_going_0 6 rfl rfl)
theorem dX13_going_7 : decode cX13_going 7 = .ok (.iload_n 1, 1) := dk_27 (dk_at dksX13_going_0 7 rfl rfl)
theorem dX13_going_8 : decode cX13_going 8 = .ok (.aload_n 2, 1) := dk_44 (dk_at dksX13_going_0 8 rfl rfl)
theorem dX13_going_9 : decode cX13_going 9 = .ok (.invokespecial 31, 3) := dk_183 0 31 (dk_at dksX13_going_0 9 rfl rfl)
theorem dX13_going_12 : decode cX13_going 12 = .ok (.aload_n 0, 1) := dk_42 (dk_at dksX13_going_0 12 rfl rfl)
theorem dX13_going_13 : decode cX13_going 13 = .ok (.getfield 35, 3) := dk_180 0 35 (dk_at dksX13_going_0 13 rfl rfl)
theorem dX13_going_16 : decode cX13_going 16 = .ok (.iadd, 1) := dk_96 (dk_at dksX13_going_0 16 rfl rfl)
theorem dX13_going_17 : decode cX13_going 17 = .ok (.ireturn, 1) := dk_172 (dk_at dksX13_going_0 17 rfl rfl)
theorem q102 : (Jvm.Cond.initialized "NoFartherThanAThrow$Heavy") ∈ lw_all := lw_g (lw_at lw_m1 24 rfl) rfl
theorem q616 : (Jvm.Cond.instanceMethod ({ cls := "NoFartherThanAThrow$Heavy", name := "more", desc := "()I" } : Jvm.MethodName)) ∈ lw_all := lw_g (lw_at lw_m3 58 rfl) rfl
theorem q617 : (Jvm.Cond.selects "NoFartherThanAThrow$Heavy" ({ cls := "NoFartherThanAThrow$Heavy", name := "more", desc := "()I" } : Jvm.MethodName) ({ cls := "NoFartherThanAThrow$Heavy", name := "more", desc := "()I" } : Jvm.MethodName)) ∈ lw_all := lw_g (lw_at lw_m3 59 rfl) rfl
theorem q618 : (Jvm.Cond.sameMethod "NoFartherThanAThrow$Heavy" "NoFartherThanAThrow$Heavy" "more" "()I") ∈ lw_all := lw_g (lw_at lw_m3 60 rfl) rfl
theorem q621 : (Jvm.Cond.code ({ cls := "NoFartherThanAThrow$Heavy", name := "more", desc := "()I" } : Jvm.MethodName) prog_6_method_4_code (1 : Nat) (Option.some Jvm.ClassFile.FieldType.int)) ∈ lw_all := lw_g (lw_at lw_m3 63 rfl) rfl
theorem q643 : (Jvm.Cond.selects "NoFartherThanAThrow$Heavy" ({ cls := "NoFartherThanAThrow$Thing", name := "can", desc := "(I)I" } : Jvm.MethodName) ({ cls := "NoFartherThanAThrow$Thing", name := "can", desc := "(I)I" } : Jvm.MethodName)) ∈ lw_all := lw_g (lw_at lw_m3 85 rfl) rfl
theorem q657 : (Jvm.Cond.selects "NoFartherThanAThrow$Heavy" ({ cls := "NoFartherThanAThrow$Thing", name := "counts", desc := "()I" } : Jvm.MethodName) ({ cls := "NoFartherThanAThrow$Thing", name := "counts", desc := "()I" } : Jvm.MethodName)) ∈ lw_all := lw_g (lw_at lw_m3 99 rfl) rfl
theorem q663 : (Jvm.Cond.sameMethod "NoFartherThanAThrow$Heavy" "NoFartherThanAThrow$Thing" "counts" "()I") ∈ lw_all := lw_g (lw_at lw_m3 105 rfl) rfl
theorem q666 : (Jvm.Cond.superclass "NoFartherThanAThrow$Heavy" "NoFartherThanAThrow$Thing") ∈ lw_all := lw_g (lw_at lw_m3 108 rfl) rfl
theorem q682 : (Jvm.Cond.declares ({ cls := "NoFartherThanAThrow$Heavy", name := "more", desc := "()I" } : Jvm.MethodName)) ∈ lw_tbl := lw_at lw_m3 124 rfl
theorem q694 : (Jvm.Cond.selects "NoFartherThanAThrow$Heavy" ({ cls := "NoFartherThanAThrow$Thing", name := "said", desc := "()I" } : Jvm.MethodName) ({ cls := "NoFartherThanAThrow$Thing", name := "said", desc := "()I" } : Jvm.MethodName)) ∈ lw_all := lw_g (lw_at lw_m3 136 rfl) rfl
theorem q726 : (Jvm.Cond.instantiable "NoFartherThanAThrow$Heavy" (3 : Nat)) ∈ lw_all := lw_g (lw_at lw_m3 168 rfl) rfl
theorem q728 : (Jvm.Cond.instanceMethod ({ cls := "NoFartherThanAThrow$Heavy", name := "<init>", desc := "(III)V" } : Jvm.MethodName)) ∈ lw_all := lw_g (lw_at lw_m3 170 rfl) rfl
theorem q729 : (Jvm.Cond.code ({ cls := "NoFartherThanAThrow$Heavy", name := "<init>", desc := "(III)V" } : Jvm.MethodName) prog_6_method_1_code (4 : Nat) (Option.none : Option Jvm.ClassFile.FieldType)) ∈ lw_all := lw_g (lw_at lw_m3 171 rfl) rfl
theorem q730 : (Jvm.Cond.methodLink "NoFartherThanAThrow$Heavy" (3 : Nat) ({ cls := "NoFartherThanAThrow$Thing", name := "<init>", desc := "(III)V" } : Jvm.MethodName)) ∈ lw_all := lw_g (lw_at lw_m3 172 rfl) rfl
theorem q741 : (Jvm.Cond.fieldLink "NoFartherThanAThrow$Heavy" (35 : Nat) "NoFartherThanAThrow$Heavy" "weight" "I") ∈ lw_all := lw_g (lw_at lw_m3 183 rfl) rfl
theorem q742 : (Jvm.Cond.sameField "NoFartherThanAThrow$Heavy" "NoFartherThanAThrow$Thing" "weight" "I") ∈ lw_all := lw_g (lw_at lw_m3 184 rfl) rfl
theorem q752 : (Jvm.Cond.fieldLink "NoFartherThanAThrow$Heavy" (21 : Nat) "NoFartherThanAThrow$Heavy" "extra" "I") ∈ lw_all := lw_g (lw_at lw_m3 194 rfl) rfl
theorem q753 : (Jvm.Cond.sameField "NoFartherThanAThrow$Heavy" "NoFartherThanAThrow$Thing" "extra" "I") ∈ lw_all := lw_g (lw_at lw_m3 195 rfl) rfl
theorem q755 : (Jvm.Cond.laysFinal "NoFartherThanAThrow$Heavy" "NoFartherThanAThrow$Thing" "index" "I") ∈ lw_all := lw_g (lw_at lw_m3 197 rfl) rfl
theorem q757 : (Jvm.Cond.laysFinal "NoFartherThanAThrow$Heavy" "NoFartherThanAThrow$Thing" "weight" "I") ∈ lw_all := lw_g (lw_at lw_m3 199 rfl) rfl
theorem q759 : (Jvm.Cond.laysFinal "NoFartherThanAThrow$Heavy" "NoFartherThanAThrow$Thing" "extra" "I") ∈ lw_all := lw_g (lw_at lw_m3 201 rfl) rfl
theorem q898 : (Jvm.Cond.selects "NoFartherThanAThrow$Heavy" ({ cls := "NoFartherThanAThrow$Thing", name := "kind", desc := "()I" } : Jvm.MethodName) ({ cls := "NoFartherThanAThrow$Heavy", name := "kind", desc := "()I" } : Jvm.MethodName)) ∈ lw_all := lw_g (lw_at lw_m4 100 rfl) rfl
theorem q899 : (Jvm.Cond.instanceMethod ({ cls := "NoFartherThanAThrow$Heavy", name := "kind", desc := "()I" } : Jvm.MethodName)) ∈ lw_all := lw_g (lw_at lw_m4 101 rfl) rfl
theorem q900 : (Jvm.Cond.code ({ cls := "NoFartherThanAThrow$Heavy", name := "kind", desc := "()I" } : Jvm.MethodName) prog_6_method_2_code (1 : Nat) (Option.some Jvm.ClassFile.FieldType.int)) ∈ lw_all := lw_g (lw_at lw_m4 102 rfl) rfl
theorem q1099 : (Jvm.Cond.instanceMethod ({ cls := "NoFartherThanAThrow$Heavy", name := "far", desc := "(II)I" } : Jvm.MethodName)) ∈ lw_all := lw_g (lw_at lw_m5 61 rfl) rfl
theorem q1100 : (Jvm.Cond.code ({ cls := "NoFartherThanAThrow$Heavy", name := "far", desc := "(II)I" } : Jvm.MethodName) prog_6_method_3_code (3 : Nat) (Option.some Jvm.ClassFile.FieldType.int)) ∈ lw_all := lw_g (lw_at lw_m5 62 rfl) rfl
theorem q1101 : (Jvm.Cond.methodLink "NoFartherThanAThrow$Heavy" (9 : Nat) ({ cls := "NoFartherThanAThrow$Heavy", name := "can", desc := "(I)I" } : Jvm.MethodName)) ∈ lw_all := lw_g (lw_at lw_m5 63 rfl) rfl
theorem q1102 : (Jvm.Cond.sameMethod "NoFartherThanAThrow$Heavy" "NoFartherThanAThrow$Thing" "can" "(I)I") ∈ lw_all := lw_g (lw_at lw_m5 64 rfl) rfl
theorem q1104 : (Jvm.Cond.selects "NoFartherThanAThrow$Heavy" ({ cls := "NoFartherThanAThrow$Heavy", name := "can", desc := "(I)I" } : Jvm.MethodName) ({ cls := "NoFartherThanAThrow$Thing", name := "can", desc := "(I)I" } : Jvm.MethodName)) ∈ lw_all := lw_g (lw_at lw_m5 66 rfl) rfl
theorem q1107 : (Jvm.Cond.methodLink "NoFartherThanAThrow$Heavy" (15 : Nat) ({ cls := "java/lang/Math", name := "min", desc := "(II)I" } : Jvm.MethodName)) ∈ lw_all := lw_g (lw_at lw_m5 69 rfl) rfl
theorem q1280 : (Jvm.Cond.selects "NoFartherThanAThrow$Heavy" ({ cls := "NoFartherThanAThrow$Thing", name := "breaks", desc := "()Z" } : Jvm.MethodName) ({ cls := "NoFartherThanAThrow$Thing", name := "breaks", desc := "()Z" } : Jvm.MethodName)) ∈ lw_all := lw_g (lw_at lw_m6 2 rfl) rfl
theorem q1321 : (Jvm.Cond.selects "NoFartherThanAThrow$Heavy" ({ cls := "NoFartherThanAThrow$Thing", name := "going", desc := "(ILNoFartherThanAThrow$Trace;)I" } : Jvm.MethodName) ({ cls := "NoFartherThanAThrow$Heavy", name := "going", desc := "(ILNoFartherThanAThrow$Trace;)I" } : Jvm.MethodName)) ∈ lw_all := lw_g (lw_at lw_m6 43 rfl) rfl
theorem q1322 : (Jvm.Cond.instanceMethod ({ cls := "NoFartherThanAThrow$Heavy", name := "going", desc := "(ILNoFartherThanAThrow$Trace;)I" } : Jvm.MethodName)) ∈ lw_all := lw_g (lw_at lw_m6 44 rfl) rfl
theorem q1323 : (Jvm.Cond.code ({ cls := "NoFartherThanAThrow$Heavy", name := "going", desc := "(ILNoFartherThanAThrow$Trace;)I" } : Jvm.MethodName) prog_6_method_5_code (3 : Nat) (Option.some Jvm.ClassFile.FieldType.int)) ∈ lw_all := lw_g (lw_at lw_m6 45 rfl) rfl
theorem q1324 : (Jvm.Cond.methodLink "NoFartherThanAThrow$Heavy" (25 : Nat) ({ cls := "NoFartherThanAThrow$Trace", name := "runs", desc := "(I)V" } : Jvm.MethodName)) ∈ lw_all := lw_g (lw_at lw_m6 46 rfl) rfl
theorem q1325 : (Jvm.Cond.methodLink "NoFartherThanAThrow$Heavy" (31 : Nat) ({ cls := "NoFartherThanAThrow$Thing", name := "going", desc := "(ILNoFartherThanAThrow$Trace;)I" } : Jvm.MethodName)) ∈ lw_all := lw_g (lw_at lw_m6 47 rfl) rfl
theorem q1349 : (Jvm.Cond.selects "NoFartherThanAThrow$Heavy" ({ cls := "NoFartherThanAThrow$Thing", name := "resting", desc := "(ILNoFartherThanAThrow$Trace;)I" } : Jvm.MethodName) ({ cls := "NoFartherThanAThrow$Thing", name := "resting", desc := "(ILNoFartherThanAThrow$Trace;)I" } : Jvm.MethodName)) ∈ lw_all := lw_g (lw_at lw_m6 71 rfl) rfl
theorem q1356 : (Jvm.Cond.sameMethod "NoFartherThanAThrow$Heavy" "NoFartherThanAThrow$Thing" "resting" "(ILNoFartherThanAThrow$Trace;)I") ∈ lw_all := lw_g (lw_at lw_m6 78 rfl) rfl
theorem q1370 : (Jvm.Cond.selects "NoFartherThanAThrow$Heavy" ({ cls := "NoFartherThanAThrow$Thing", name := "falling", desc := "(ILNoFartherThanAThrow$Trace;)I" } : Jvm.MethodName) ({ cls := "NoFartherThanAThrow$Thing", name := "falling", desc := "(ILNoFartherThanAThrow$Trace;)I" } : Jvm.MethodName)) ∈ lw_all := lw_g (lw_at lw_m6 92 rfl) rfl
theorem q1377 : (Jvm.Cond.sameMethod "NoFartherThanAThrow$Heavy" "NoFartherThanAThrow$Thing" "falling" "(ILNoFartherThanAThrow$Trace;)I") ∈ lw_all := lw_g (lw_at lw_m6 99 rfl) rfl
theorem q1936 : (Jvm.Cond.selects "NoFartherThanAThrow$Heavy" ({ cls := "NoFartherThanAThrow$Thing", name := "far", desc := "(II)I" } : Jvm.MethodName) ({ cls := "NoFartherThanAThrow$Heavy", name := "far", desc := "(II)I" } : Jvm.MethodName)) ∈ lw_all := lw_g (lw_at lw_m8 178 rfl) rfl
theorem q1940 : (Jvm.Cond.sameMethod "NoFartherThanAThrow$Heavy" "NoFartherThanAThrow$Heavy" "far" "(II)I") ∈ lw_all := lw_g (lw_at lw_m8 182 rfl) rfl
theorem q1942 : (Jvm.Cond.sameMethod "NoFartherThanAThrow$Heavy" "NoFartherThanAThrow$Heavy" "going" "(ILNoFartherThanAThrow$Trace;)I") ∈ lw_all := lw_g (lw_at lw_m8 184 rfl) rfl
theorem q1951 : (Jvm.Cond.castable "NoFartherThanAThrow$Heavy" "NoFartherThanAThrow$Thing") ∈ lw_tbl := lw_at lw_m8 193 rfl
theorem in_X13 : ∀ w ∈ wsX130, w ∈ lw_all := lw_in wsX130 [755, 757, 759] (by decide +kernel) (by decide +kernel)
/-! NoFartherThanAThrow$Light -/
set_option maxRecDepth 100000
def RX14 : String := "NoFartherThanAThrow$Light"
def TX14 : u_T := fun k => match k with
  | 0 => ("NoFartherThanAThrow$Thing", "index", "I", true)
  | 1 => ("NoFartherThanAThrow$Thing", "weight", "I", true)
  | _ => ("NoFartherThanAThrow$Thing", "extra", "I", true)
def tyX14 : Nat → FieldType := fun k => match k with
  | 0 => .int
  | 1 => .int
  | _ => .int
abbrev wsX140 : List Cond := u_ws RX14 TX14 3
theorem nmX14 : ∀ a, a < 3 → ∀ b, b < 3 → a ≠ b → (TX14 a).2.1 ≠ (TX14 b).2.1 := by decide +kernel
theorem tyX14_ok : ∀ k, k < 3 → parseFieldDescriptor (TX14 k).2.2.1 = some (tyX14 k) := by decide +kernel
abbrev cX14_far : ByteArray := prog_8_method_3_code
def yX14_far : MethodName := ⟨RX14, "far", "(II)I"⟩
def dkwX14_far_0 : List UInt8 := [42, 27, 28, 183, 0, 9, 28, 96, 172]
abbrev dktX14_far_0 : List UInt8 := dkwX14_far_0 ++ []
theorem dksX14_far_0 : cX14_far.data.toList.drop 0 = dktX14_far_0 := by decide +kernel
theorem dX14_far_0 : decode cX14_far 0 = .ok (.aload_n 0, 1) := dk_42 (dk_at dksX14_far_0 0 rfl rfl)
theorem dX14_far_1 : decode cX14_far 1 = .ok (.iload_n 1, 1) := dk_27 (dk_at dksX14_far_0 1 rfl rfl)
theorem dX14_far_2 : decode cX14_far 2 = .ok (.iload_n 2, 1) := dk_28 (dk_at dksX14_far_0 2 rfl rfl)
theorem dX14_far_3 : decode cX14_far 3 = .ok (.invokespecial 9, 3) := dk_183 0 9 (dk_at dksX14_far_0 3 rfl rfl)
theorem dX14_far_6 : decode cX14_far 6 = .ok (.iload_n 2, 1) := dk_28 (dk_at dksX14_far_0 6 rfl rfl)
theorem dX14_far_7 : decode cX14_far 7 = .ok (.iadd, 1) := dk_96 (dk_at dksX14_far_0 7 rfl rfl)
theorem dX14_far_8 : decode cX14_far 8 = .ok (.ireturn, 1) := dk_172 (dk_at dksX14_far_0 8 rfl rfl)
abbrev cX14_init : ByteArray := prog_8_method_1_code
def yX14_init : MethodName := ⟨RX14, "<init>", "(III)V"⟩
def dkwX14_init_0 : List UInt8 := [42, 27, 28, 29, 183, 0, 3, 177]
abbrev dktX14_init_0 : List UInt8 := dkwX14_init_0 ++ []
theorem dksX14_init_0 : cX14_init.data.toList.drop 0 = dktX14_init_0 := by decide +kernel
theorem dX14_init_0 : decode cX14_init 0 = .ok (.aload_n 0, 1) := dk_42 (dk_at dksX14_init_0 0 rfl rfl)
theorem dX14_init_1 : decode cX14_init 1 = .ok (.iload_n 1, 1) := dk_27 (dk_at dksX14_init_0 1 rfl rfl)
theorem dX14_init_2 : decode cX14_init 2 = .ok (.iload_n 2, 1) := dk_28 (dk_at dksX14_init_0 2 rfl rfl)
theorem dX14_init_3 : decode cX14_init 3 = .ok (.iload_n 3, 1) := dk_29 (dk_at dksX14_init_0 3 rfl rfl)
theorem dX14_init_4 : decode cX14_init 4 = .ok (.invokespecial 3, 3) := dk_183 0 3 (dk_at dksX14_init_0 4 rfl rfl)
theorem dX14_init_7 : decode cX14_init 7 = .ok (.return_, 1) := dk_177 (dk_at dksX14_init_0 7 rfl rfl)
abbrev cX14_kind : ByteArray := prog_8_method_2_code
def yX14_kind : MethodName := ⟨RX14, "kind", "()I"⟩
theorem dX14_kind_0 : decode cX14_kind 0 = .ok (.iconst 2, 1) := by decide +kernel
theorem dX14_kind_1 : decode cX14_kind 1 = .ok (.ireturn, 1) := by decide +kernel
abbrev cX14_resting : ByteArray := prog_8_method_4_code
def yX14_resting : MethodName := ⟨RX14, "resting", "(ILNoFartherThanAThrow$Trace;)I"⟩
def dkwX14_resting_0 : List UInt8 := [44, 16, 50, 182, 0, 13, 42, 27, 44, 183, 0, 19, 116, 172]
abbrev dktX14_resting_0 : List UInt8 := dkwX14_resting_0 ++ []
theorem dksX14_resting_0 : cX14_resting.data.toList.drop 0 = dktX14_resting_0 := by decide +kernel
theorem dX14_resting_0 : decode cX14_resting 0 = .ok (.aload_n 2, 1) := dk_44 (dk_at dksX14_resting_0 0 rfl rfl)
theorem dX14_resting_1 : decode cX14_resting 1 = .ok (.bipush 50, 2) := dk_16 50 (dk_at dksX14_resting_0 1 rfl rfl)
theorem dX14_resting_3 : decode cX14_resting 3 = .ok (.invokevirtual 13, 3) := dk_182 0 13 (dk_at dksX14_resting_0 3 rfl rfl)
theorem dX14_resting_6 : decode cX14_resting 6 = .ok (.aload_n 0, 1) := dk_42 (dk_at dksX14_resting_0 6 rfl rfl)
theorem dX14_resting_7 : decode cX14_resting 7 = .ok (.iload_n 1, 1) := dk_27 (dk_at dksX14_resting_0 7 rfl rfl)
theorem dX14_resting_8 : decode cX14_resting 8 = .ok (.aload_n 2, 1) := dk_44 (dk_at dksX14_resting_0 8 rfl rfl)
theorem dX14_resting_9 : decode cX14_resting 9 = .ok (.invokespecial 19, 3) := dk_183 0 19 (dk_at dksX14_resting_0 9 rfl rfl)
theorem dX14_resting_12 : decode cX14_resting 12 = .ok (.ineg, 1) := dk_116 (dk_at dksX14_resting_0 12 rfl rfl)
theorem dX14_resting_13 : decode cX14_resting 13 = .ok (.ireturn, 1) := dk_172 (dk_at dksX14_resting_0 13 rfl rfl)
theorem q103 : (Jvm.Cond.initialized "NoFartherThanAThrow$Light") ∈ lw_all := lw_g (lw_at lw_m1 25 rfl) rfl
theorem q624 : (Jvm.Cond.instanceMethod ({ cls := "NoFartherThanAThrow$Light", name := "far", desc := "(II)I" } : Jvm.MethodName)) ∈ lw_all := lw_g (lw_at lw_m3 66 rfl) rfl
theorem q625 : (Jvm.Cond.selects "NoFartherThanAThrow$Light" ({ cls := "NoFartherThanAThrow$Light", name := "far", desc := "(II)I" } : Jvm.MethodName) ({ cls := "NoFartherThanAThrow$Light", name := "far", desc := "(II)I" } : Jvm.MethodName)) ∈ lw_all := lw_g (lw_at lw_m3 67 rfl) rfl
theorem q626 : (Jvm.Cond.sameMethod "NoFartherThanAThrow$Light" "NoFartherThanAThrow$Light" "far" "(II)I") ∈ lw_all := lw_g (lw_at lw_m3 68 rfl) rfl
theorem q632 : (Jvm.Cond.code ({ cls := "NoFartherThanAThrow$Light", name := "far", desc := "(II)I" } : Jvm.MethodName) prog_8_method_3_code (3 : Nat) (Option.some Jvm.ClassFile.FieldType.int)) ∈ lw_all := lw_g (lw_at lw_m3 74 rfl) rfl
theorem q633 : (Jvm.Cond.methodLink "NoFartherThanAThrow$Light" (9 : Nat) ({ cls := "NoFartherThanAThrow$Thing", name := "far", desc := "(II)I" } : Jvm.MethodName)) ∈ lw_all := lw_g (lw_at lw_m3 75 rfl) rfl
theorem q634 : (Jvm.Cond.superclass "NoFartherThanAThrow$Light" "NoFartherThanAThrow$Thing") ∈ lw_all := lw_g (lw_at lw_m3 76 rfl) rfl
theorem q644 : (Jvm.Cond.selects "NoFartherThanAThrow$Light" ({ cls := "NoFartherThanAThrow$Thing", name := "can", desc := "(I)I" } : Jvm.MethodName) ({ cls := "NoFartherThanAThrow$Thing", name := "can", desc := "(I)I" } : Jvm.MethodName)) ∈ lw_all := lw_g (lw_at lw_m3 86 rfl) rfl
theorem q658 : (Jvm.Cond.selects "NoFartherThanAThrow$Light" ({ cls := "NoFartherThanAThrow$Thing", name := "counts", desc := "()I" } : Jvm.MethodName) ({ cls := "NoFartherThanAThrow$Thing", name := "counts", desc := "()I" } : Jvm.MethodName)) ∈ lw_all := lw_g (lw_at lw_m3 100 rfl) rfl
theorem q695 : (Jvm.Cond.selects "NoFartherThanAThrow$Light" ({ cls := "NoFartherThanAThrow$Thing", name := "said", desc := "()I" } : Jvm.MethodName) ({ cls := "NoFartherThanAThrow$Thing", name := "said", desc := "()I" } : Jvm.MethodName)) ∈ lw_all := lw_g (lw_at lw_m3 137 rfl) rfl
theorem q762 : (Jvm.Cond.instantiable "NoFartherThanAThrow$Light" (3 : Nat)) ∈ lw_all := lw_g (lw_at lw_m3 204 rfl) rfl
theorem q764 : (Jvm.Cond.instanceMethod ({ cls := "NoFartherThanAThrow$Light", name := "<init>", desc := "(III)V" } : Jvm.MethodName)) ∈ lw_all := lw_g (lw_at lw_m3 206 rfl) rfl
theorem q765 : (Jvm.Cond.code ({ cls := "NoFartherThanAThrow$Light", name := "<init>", desc := "(III)V" } : Jvm.MethodName) prog_8_method_1_code (4 : Nat) (Option.none : Option Jvm.ClassFile.FieldType)) ∈ lw_all := lw_g (lw_at lw_m3 207 rfl) rfl
theorem q766 : (Jvm.Cond.methodLink "NoFartherThanAThrow$Light" (3 : Nat) ({ cls := "NoFartherThanAThrow$Thing", name := "<init>", desc := "(III)V" } : Jvm.MethodName)) ∈ lw_all := lw_g (lw_at lw_m3 208 rfl) rfl
theorem q767 : (Jvm.Cond.laysFinal "NoFartherThanAThrow$Light" "NoFartherThanAThrow$Thing" "index" "I") ∈ lw_all := lw_g (lw_at lw_m3 209 rfl) rfl
theorem q768 : (Jvm.Cond.laysFinal "NoFartherThanAThrow$Light" "NoFartherThanAThrow$Thing" "weight" "I") ∈ lw_all := lw_g (lw_at lw_m3 210 rfl) rfl
theorem q769 : (Jvm.Cond.laysFinal "NoFartherThanAThrow$Light" "NoFartherThanAThrow$Thing" "extra" "I") ∈ lw_all := lw_g (lw_at lw_m3 211 rfl) rfl
theorem q901 : (Jvm.Cond.selects "NoFartherThanAThrow$Light" ({ cls := "NoFartherThanAThrow$Thing", name := "kind", desc := "()I" } : Jvm.MethodName) ({ cls := "NoFartherThanAThrow$Light", name := "kind", desc := "()I" } : Jvm.MethodName)) ∈ lw_all := lw_g (lw_at lw_m4 103 rfl) rfl
theorem q902 : (Jvm.Cond.instanceMethod ({ cls := "NoFartherThanAThrow$Light", name := "kind", desc := "()I" } : Jvm.MethodName)) ∈ lw_all := lw_g (lw_at lw_m4 104 rfl) rfl
theorem q903 : (Jvm.Cond.code ({ cls := "NoFartherThanAThrow$Light", name := "kind", desc := "()I" } : Jvm.MethodName) prog_8_method_2_code (1 : Nat) (Option.some Jvm.ClassFile.FieldType.int)) ∈ lw_all := lw_g (lw_at lw_m4 105 rfl) rfl
theorem q1281 : (Jvm.Cond.selects "NoFartherThanAThrow$Light" ({ cls := "NoFartherThanAThrow$Thing", name := "breaks", desc := "()Z" } : Jvm.MethodName) ({ cls := "NoFartherThanAThrow$Thing", name := "breaks", desc := "()Z" } : Jvm.MethodName)) ∈ lw_all := lw_g (lw_at lw_m6 3 rfl) rfl
theorem q1326 : (Jvm.Cond.selects "NoFartherThanAThrow$Light" ({ cls := "NoFartherThanAThrow$Thing", name := "going", desc := "(ILNoFartherThanAThrow$Trace;)I" } : Jvm.MethodName) ({ cls := "NoFartherThanAThrow$Thing", name := "going", desc := "(ILNoFartherThanAThrow$Trace;)I" } : Jvm.MethodName)) ∈ lw_all := lw_g (lw_at lw_m6 48 rfl) rfl
theorem q1344 : (Jvm.Cond.instanceMethod ({ cls := "NoFartherThanAThrow$Light", name := "resting", desc := "(ILNoFartherThanAThrow$Trace;)I" } : Jvm.MethodName)) ∈ lw_all := lw_g (lw_at lw_m6 66 rfl) rfl
theorem q1345 : (Jvm.Cond.code ({ cls := "NoFartherThanAThrow$Light", name := "resting", desc := "(ILNoFartherThanAThrow$Trace;)I" } : Jvm.MethodName) prog_8_method_4_code (3 : Nat) (Option.some Jvm.ClassFile.FieldType.int)) ∈ lw_all := lw_g (lw_at lw_m6 67 rfl) rfl
theorem q1346 : (Jvm.Cond.methodLink "NoFartherThanAThrow$Light" (13 : Nat) ({ cls := "NoFartherThanAThrow$Trace", name := "runs", desc := "(I)V" } : Jvm.MethodName)) ∈ lw_all := lw_g (lw_at lw_m6 68 rfl) rfl
theorem q1347 : (Jvm.Cond.methodLink "NoFartherThanAThrow$Light" (19 : Nat) ({ cls := "NoFartherThanAThrow$Thing", name := "resting", desc := "(ILNoFartherThanAThrow$Trace;)I" } : Jvm.MethodName)) ∈ lw_all := lw_g (lw_at lw_m6 69 rfl) rfl
theorem q1350 : (Jvm.Cond.selects "NoFartherThanAThrow$Light" ({ cls := "NoFartherThanAThrow$Thing", name := "resting", desc := "(ILNoFartherThanAThrow$Trace;)I" } : Jvm.MethodName) ({ cls := "NoFartherThanAThrow$Light", name := "resting", desc := "(ILNoFartherThanAThrow$Trace;)I" } : Jvm.MethodName)) ∈ lw_all := lw_g (lw_at lw_m6 72 rfl) rfl
theorem q1371 : (Jvm.Cond.selects "NoFartherThanAThrow$Light" ({ cls := "NoFartherThanAThrow$Thing", name := "falling", desc := "(ILNoFartherThanAThrow$Trace;)I" } : Jvm.MethodName) ({ cls := "NoFartherThanAThrow$Thing", name := "falling", desc := "(ILNoFartherThanAThrow$Trace;)I" } : Jvm.MethodName)) ∈ lw_all := lw_g (lw_at lw_m6 93 rfl) rfl
theorem q1937 : (Jvm.Cond.selects "NoFartherThanAThrow$Light" ({ cls := "NoFartherThanAThrow$Thing", name := "far", desc := "(II)I" } : Jvm.MethodName) ({ cls := "NoFartherThanAThrow$Light", name := "far", desc := "(II)I" } : Jvm.MethodName)) ∈ lw_all := lw_g (lw_at lw_m8 179 rfl) rfl
theorem q1943 : (Jvm.Cond.sameMethod "NoFartherThanAThrow$Light" "NoFartherThanAThrow$Light" "resting" "(ILNoFartherThanAThrow$Trace;)I") ∈ lw_all := lw_g (lw_at lw_m8 185 rfl) rfl
theorem q1952 : (Jvm.Cond.castable "NoFartherThanAThrow$Light" "NoFartherThanAThrow$Thing") ∈ lw_tbl := lw_at lw_m8 194 rfl
theorem in_X14 : ∀ w ∈ wsX140, w ∈ lw_all := lw_in wsX140 [767, 768, 769] (by decide +kernel) (by decide +kernel)
/-! NoFartherThanAThrow$Feather -/
set_option maxRecDepth 100000
def RX15 : String := "NoFartherThanAThrow$Feather"
def TX15 : u_T := fun k => match k with
  | 0 => ("NoFartherThanAThrow$Thing", "index", "I", true)
  | 1 => ("NoFartherThanAThrow$Thing", "weight", "I", true)
  | _ => ("NoFartherThanAThrow$Thing", "extra", "I", true)
def tyX15 : Nat → FieldType := fun k => match k with
  | 0 => .int
  | 1 => .int
  | _ => .int
abbrev wsX150 : List Cond := u_ws RX15 TX15 3
theorem nmX15 : ∀ a, a < 3 → ∀ b, b < 3 → a ≠ b → (TX15 a).2.1 ≠ (TX15 b).2.1 := by decide +kernel
theorem tyX15_ok : ∀ k, k < 3 → parseFieldDescriptor (TX15 k).2.2.1 = some (tyX15 k) := by decide +kernel
abbrev cX15_far : ByteArray := prog_4_method_3_code
def yX15_far : MethodName := ⟨RX15, "far", "(II)I"⟩
def dkwX15_far_0 : List UInt8 := [42, 27, 28, 183, 0, 9, 5, 108, 172]
abbrev dktX15_far_0 : List UInt8 := dkwX15_far_0 ++ []
theorem dksX15_far_0 : cX15_far.data.toList.drop 0 = dktX15_far_0 := by decide +kernel
theorem dX15_far_0 : decode cX15_far 0 = .ok (.aload_n 0, 1) := dk_42 (dk_at dksX15_far_0 0 rfl rfl)
theorem dX15_far_1 : decode cX15_far 1 = .ok (.iload_n 1, 1) := dk_27 (dk_at dksX15_far_0 1 rfl rfl)
theorem dX15_far_2 : decode cX15_far 2 = .ok (.iload_n 2, 1) := dk_28 (dk_at dksX15_far_0 2 rfl rfl)
theorem dX15_far_3 : decode cX15_far 3 = .ok (.invokespecial 9, 3) := dk_183 0 9 (dk_at dksX15_far_0 3 rfl rfl)
theorem dX15_far_6 : decode cX15_far 6 = .ok (.iconst 2, 1) := dk_5 (dk_at dksX15_far_0 6 rfl rfl)
theorem dX15_far_7 : decode cX15_far 7 = .ok (.idiv, 1) := dk_108 (dk_at dksX15_far_0 7 rfl rfl)
theorem dX15_far_8 : decode cX15_far 8 = .ok (.ireturn, 1) := dk_172 (dk_at dksX15_far_0 8 rfl rfl)
abbrev cX15_init : ByteArray := prog_4_method_1_code
def yX15_init : MethodName := ⟨RX15, "<init>", "(III)V"⟩
def dkwX15_init_0 : List UInt8 := [42, 27, 28, 29, 183, 0, 3, 177]
abbrev dktX15_init_0 : List UInt8 := dkwX15_init_0 ++ []
theorem dksX15_init_0 : cX15_init.data.toList.drop 0 = dktX15_init_0 := by decide +kernel
theorem dX15_init_0 : decode cX15_init 0 = .ok (.aload_n 0, 1) := dk_42 (dk_at dksX15_init_0 0 rfl rfl)
theorem dX15_init_1 : decode cX15_init 1 = .ok (.iload_n 1, 1) := dk_27 (dk_at dksX15_init_0 1 rfl rfl)
theorem dX15_init_2 : decode cX15_init 2 = .ok (.iload_n 2, 1) := dk_28 (dk_at dksX15_init_0 2 rfl rfl)
theorem dX15_init_3 : decode cX15_init 3 = .ok (.iload_n 3, 1) := dk_29 (dk_at dksX15_init_0 3 rfl rfl)
theorem dX15_init_4 : decode cX15_init 4 = .ok (.invokespecial 3, 3) := dk_183 0 3 (dk_at dksX15_init_0 4 rfl rfl)
theorem dX15_init_7 : decode cX15_init 7 = .ok (.return_, 1) := dk_177 (dk_at dksX15_init_0 7 rfl rfl)
abbrev cX15_kind : ByteArray := prog_4_method_2_code
def yX15_kind : MethodName := ⟨RX15, "kind", "()I"⟩
theorem dX15_kind_0 : decode cX15_kind 0 = .ok (.iconst 3, 1) := by decide +kernel
theorem dX15_kind_1 : decode cX15_kind 1 = .ok (.ireturn, 1) := by decide +kernel
abbrev cX15_resting : ByteArray := prog_4_method_4_code
def yX15_resting : MethodName := ⟨RX15, "resting", "(ILNoFartherThanAThrow$Trace;)I"⟩
def dkwX15_resting_0 : List UInt8 := [44, 16, 60, 182, 0, 13, 42, 27, 44, 183, 0, 19, 8, 130, 172]
abbrev dktX15_resting_0 : List UInt8 := dkwX15_resting_0 ++ []
theorem dksX15_resting_0 : cX15_resting.data.toList.drop 0 = dktX15_resting_0 := by decide +kernel
theorem dX15_resting_0 : decode cX15_resting 0 = .ok (.aload_n 2, 1) := dk_44 (dk_at dksX15_resting_0 0 rfl rfl)
theorem dX15_resting_1 : decode cX15_resting 1 = .ok (.bipush 60, 2) := dk_16 60 (dk_at dksX15_resting_0 1 rfl rfl)
theorem dX15_resting_3 : decode cX15_resting 3 = .ok (.invokevirtual 13, 3) := dk_182 0 13 (dk_at dksX15_resting_0 3 rfl rfl)
theorem dX15_resting_6 : decode cX15_resting 6 = .ok (.aload_n 0, 1) := dk_42 (dk_at dksX15_resting_0 6 rfl rfl)
theorem dX15_resting_7 : decode cX15_resting 7 = .ok (.iload_n 1, 1) := dk_27 (dk_at dksX15_resting_0 7 rfl rfl)
theorem dX15_resting_8 : decode cX15_resting 8 = .ok (.aload_n 2, 1) := dk_44 (dk_at dksX15_resting_0 8 rfl rfl)
theorem dX15_resting_9 : decode cX15_resting 9 = .ok (.invokespecial 19, 3) := dk_183 0 19 (dk_at dksX15_resting_0 9 rfl rfl)
theorem dX15_resting_12 : decode cX15_resting 12 = .ok (.iconst 5, 1) := dk_8 (dk_at dksX15_resting_0 12 rfl rfl)
theorem dX15_resting_13 : decode cX15_resting 13 = .ok (.ixor, 1) := dk_130 (dk_at dksX15_resting_0 13 rfl rfl)
theorem dX15_resting_14 : decode cX15_resting 14 = .ok (.ireturn, 1) := dk_172 (dk_at dksX15_resting_0 14 rfl rfl)
theorem q104 : (Jvm.Cond.initialized "NoFartherThanAThrow$Feather") ∈ lw_all := lw_g (lw_at lw_m1 26 rfl) rfl
theorem q627 : (Jvm.Cond.selects "NoFartherThanAThrow$Feather" ({ cls := "NoFartherThanAThrow$Light", name := "far", desc := "(II)I" } : Jvm.MethodName) ({ cls := "NoFartherThanAThrow$Feather", name := "far", desc := "(II)I" } : Jvm.MethodName)) ∈ lw_all := lw_g (lw_at lw_m3 69 rfl) rfl
theorem q628 : (Jvm.Cond.instanceMethod ({ cls := "NoFartherThanAThrow$Feather", name := "far", desc := "(II)I" } : Jvm.MethodName)) ∈ lw_all := lw_g (lw_at lw_m3 70 rfl) rfl
theorem q629 : (Jvm.Cond.code ({ cls := "NoFartherThanAThrow$Feather", name := "far", desc := "(II)I" } : Jvm.MethodName) prog_4_method_3_code (3 : Nat) (Option.some Jvm.ClassFile.FieldType.int)) ∈ lw_all := lw_g (lw_at lw_m3 71 rfl) rfl
theorem q630 : (Jvm.Cond.methodLink "NoFartherThanAThrow$Feather" (9 : Nat) ({ cls := "NoFartherThanAThrow$Light", name := "far", desc := "(II)I" } : Jvm.MethodName)) ∈ lw_all := lw_g (lw_at lw_m3 72 rfl) rfl
theorem q631 : (Jvm.Cond.superclass "NoFartherThanAThrow$Feather" "NoFartherThanAThrow$Light") ∈ lw_all := lw_g (lw_at lw_m3 73 rfl) rfl
theorem q641 : (Jvm.Cond.selects "NoFartherThanAThrow$Feather" ({ cls := "NoFartherThanAThrow$Thing", name := "can", desc := "(I)I" } : Jvm.MethodName) ({ cls := "NoFartherThanAThrow$Thing", name := "can", desc := "(I)I" } : Jvm.MethodName)) ∈ lw_all := lw_g (lw_at lw_m3 83 rfl) rfl
theorem q655 : (Jvm.Cond.selects "NoFartherThanAThrow$Feather" ({ cls := "NoFartherThanAThrow$Thing", name := "counts", desc := "()I" } : Jvm.MethodName) ({ cls := "NoFartherThanAThrow$Thing", name := "counts", desc := "()I" } : Jvm.MethodName)) ∈ lw_all := lw_g (lw_at lw_m3 97 rfl) rfl
theorem q692 : (Jvm.Cond.selects "NoFartherThanAThrow$Feather" ({ cls := "NoFartherThanAThrow$Thing", name := "said", desc := "()I" } : Jvm.MethodName) ({ cls := "NoFartherThanAThrow$Thing", name := "said", desc := "()I" } : Jvm.MethodName)) ∈ lw_all := lw_g (lw_at lw_m3 134 rfl) rfl
theorem q771 : (Jvm.Cond.instantiable "NoFartherThanAThrow$Feather" (3 : Nat)) ∈ lw_all := lw_g (lw_at lw_m3 213 rfl) rfl
theorem q773 : (Jvm.Cond.instanceMethod ({ cls := "NoFartherThanAThrow$Feather", name := "<init>", desc := "(III)V" } : Jvm.MethodName)) ∈ lw_all := lw_g (lw_at lw_m3 215 rfl) rfl
theorem q774 : (Jvm.Cond.code ({ cls := "NoFartherThanAThrow$Feather", name := "<init>", desc := "(III)V" } : Jvm.MethodName) prog_4_method_1_code (4 : Nat) (Option.none : Option Jvm.ClassFile.FieldType)) ∈ lw_all := lw_g (lw_at lw_m3 216 rfl) rfl
theorem q775 : (Jvm.Cond.methodLink "NoFartherThanAThrow$Feather" (3 : Nat) ({ cls := "NoFartherThanAThrow$Light", name := "<init>", desc := "(III)V" } : Jvm.MethodName)) ∈ lw_all := lw_g (lw_at lw_m3 217 rfl) rfl
theorem q776 : (Jvm.Cond.laysFinal "NoFartherThanAThrow$Feather" "NoFartherThanAThrow$Thing" "index" "I") ∈ lw_all := lw_g (lw_at lw_m3 218 rfl) rfl
theorem q777 : (Jvm.Cond.laysFinal "NoFartherThanAThrow$Feather" "NoFartherThanAThrow$Thing" "weight" "I") ∈ lw_all := lw_g (lw_at lw_m3 219 rfl) rfl
theorem q778 : (Jvm.Cond.laysFinal "NoFartherThanAThrow$Feather" "NoFartherThanAThrow$Thing" "extra" "I") ∈ lw_all := lw_g (lw_at lw_m3 220 rfl) rfl
theorem q892 : (Jvm.Cond.selects "NoFartherThanAThrow$Feather" ({ cls := "NoFartherThanAThrow$Thing", name := "kind", desc := "()I" } : Jvm.MethodName) ({ cls := "NoFartherThanAThrow$Feather", name := "kind", desc := "()I" } : Jvm.MethodName)) ∈ lw_all := lw_g (lw_at lw_m4 94 rfl) rfl
theorem q893 : (Jvm.Cond.instanceMethod ({ cls := "NoFartherThanAThrow$Feather", name := "kind", desc := "()I" } : Jvm.MethodName)) ∈ lw_all := lw_g (lw_at lw_m4 95 rfl) rfl
theorem q894 : (Jvm.Cond.code ({ cls := "NoFartherThanAThrow$Feather", name := "kind", desc := "()I" } : Jvm.MethodName) prog_4_method_2_code (1 : Nat) (Option.some Jvm.ClassFile.FieldType.int)) ∈ lw_all := lw_g (lw_at lw_m4 96 rfl) rfl
theorem q1275 : (Jvm.Cond.selects "NoFartherThanAThrow$Feather" ({ cls := "NoFartherThanAThrow$Thing", name := "breaks", desc := "()Z" } : Jvm.MethodName) ({ cls := "NoFartherThanAThrow$Thing", name := "breaks", desc := "()Z" } : Jvm.MethodName)) ∈ lw_all := lw_g (lw_at lw_m5 237 rfl) rfl
theorem q1312 : (Jvm.Cond.selects "NoFartherThanAThrow$Feather" ({ cls := "NoFartherThanAThrow$Thing", name := "going", desc := "(ILNoFartherThanAThrow$Trace;)I" } : Jvm.MethodName) ({ cls := "NoFartherThanAThrow$Thing", name := "going", desc := "(ILNoFartherThanAThrow$Trace;)I" } : Jvm.MethodName)) ∈ lw_all := lw_g (lw_at lw_m6 34 rfl) rfl
theorem q1339 : (Jvm.Cond.selects "NoFartherThanAThrow$Feather" ({ cls := "NoFartherThanAThrow$Thing", name := "resting", desc := "(ILNoFartherThanAThrow$Trace;)I" } : Jvm.MethodName) ({ cls := "NoFartherThanAThrow$Feather", name := "resting", desc := "(ILNoFartherThanAThrow$Trace;)I" } : Jvm.MethodName)) ∈ lw_all := lw_g (lw_at lw_m6 61 rfl) rfl
theorem q1340 : (Jvm.Cond.instanceMethod ({ cls := "NoFartherThanAThrow$Feather", name := "resting", desc := "(ILNoFartherThanAThrow$Trace;)I" } : Jvm.MethodName)) ∈ lw_all := lw_g (lw_at lw_m6 62 rfl) rfl
theorem q1341 : (Jvm.Cond.code ({ cls := "NoFartherThanAThrow$Feather", name := "resting", desc := "(ILNoFartherThanAThrow$Trace;)I" } : Jvm.MethodName) prog_4_method_4_code (3 : Nat) (Option.some Jvm.ClassFile.FieldType.int)) ∈ lw_all := lw_g (lw_at lw_m6 63 rfl) rfl
theorem q1342 : (Jvm.Cond.methodLink "NoFartherThanAThrow$Feather" (13 : Nat) ({ cls := "NoFartherThanAThrow$Trace", name := "runs", desc := "(I)V" } : Jvm.MethodName)) ∈ lw_all := lw_g (lw_at lw_m6 64 rfl) rfl
theorem q1343 : (Jvm.Cond.methodLink "NoFartherThanAThrow$Feather" (19 : Nat) ({ cls := "NoFartherThanAThrow$Light", name := "resting", desc := "(ILNoFartherThanAThrow$Trace;)I" } : Jvm.MethodName)) ∈ lw_all := lw_g (lw_at lw_m6 65 rfl) rfl
theorem q1365 : (Jvm.Cond.selects "NoFartherThanAThrow$Feather" ({ cls := "NoFartherThanAThrow$Thing", name := "falling", desc := "(ILNoFartherThanAThrow$Trace;)I" } : Jvm.MethodName) ({ cls := "NoFartherThanAThrow$Thing", name := "falling", desc := "(ILNoFartherThanAThrow$Trace;)I" } : Jvm.MethodName)) ∈ lw_all := lw_g (lw_at lw_m6 87 rfl) rfl
theorem q1933 : (Jvm.Cond.selects "NoFartherThanAThrow$Feather" ({ cls := "NoFartherThanAThrow$Feather", name := "far", desc := "(II)I" } : Jvm.MethodName) ({ cls := "NoFartherThanAThrow$Feather", name := "far", desc := "(II)I" } : Jvm.MethodName)) ∈ lw_all := lw_g (lw_at lw_m8 175 rfl) rfl
theorem q1934 : (Jvm.Cond.selects "NoFartherThanAThrow$Feather" ({ cls := "NoFartherThanAThrow$Thing", name := "far", desc := "(II)I" } : Jvm.MethodName) ({ cls := "NoFartherThanAThrow$Feather", name := "far", desc := "(II)I" } : Jvm.MethodName)) ∈ lw_all := lw_g (lw_at lw_m8 176 rfl) rfl
theorem q1949 : (Jvm.Cond.castable "NoFartherThanAThrow$Feather" "NoFartherThanAThrow$Thing") ∈ lw_tbl := lw_at lw_m8 191 rfl
theorem q1957 : (Jvm.Cond.castable "NoFartherThanAThrow$Feather" "NoFartherThanAThrow$Light") ∈ lw_tbl := lw_at lw_m8 199 rfl
theorem in_X15 : ∀ w ∈ wsX150, w ∈ lw_all := lw_in wsX150 [776, 777, 778] (by decide +kernel) (by decide +kernel)
/-! NoFartherThanAThrow$Glass -/
set_option maxRecDepth 100000
def RX16 : String := "NoFartherThanAThrow$Glass"
def TX16 : u_T := fun k => match k with
  | 0 => ("NoFartherThanAThrow$Thing", "index", "I", true)
  | 1 => ("NoFartherThanAThrow$Thing", "weight", "I", true)
  | _ => ("NoFartherThanAThrow$Thing", "extra", "I", true)
def tyX16 : Nat → FieldType := fun k => match k with
  | 0 => .int
  | 1 => .int
  | _ => .int
abbrev wsX160 : List Cond := u_ws RX16 TX16 3
theorem nmX16 : ∀ a, a < 3 → ∀ b, b < 3 → a ≠ b → (TX16 a).2.1 ≠ (TX16 b).2.1 := by decide +kernel
theorem tyX16_ok : ∀ k, k < 3 → parseFieldDescriptor (TX16 k).2.2.1 = some (tyX16 k) := by decide +kernel
abbrev cX16_broken : ByteArray := prog_5_method_5_code
def yX16_broken : MethodName := ⟨RX16, "broken", "(LNoFartherThanAThrow$World;)I"⟩
def dkwX16_broken_0 : List UInt8 := [43, 180, 0, 22, 42, 180, 0, 28, 51, 153, 0, 7, 4, 167, 0, 4, 3, 172]
abbrev dktX16_broken_0 : List UInt8 := dkwX16_broken_0 ++ []
theorem dksX16_broken_0 : cX16_broken.data.toList.drop 0 = dktX16_broken_0 := by decide +kernel
theorem dX16_broken_0 : decode cX16_broken 0 = .ok (.aload_n 1, 1) := dk_43 (dk_at dksX16_broken_0 0 rfl rfl)
theorem dX16_broken_1 : decode cX16_broken 1 = .ok (.getfield 22, 3) := dk_180 0 22 (dk_at dksX16_broken_0 1 rfl rfl)
theorem dX16_broken_4 : decode cX16_broken 4 = .ok (.aload_n 0, 1) := dk_42 (dk_at dksX16_broken_0 4 rfl rfl)
theorem dX16_broken_5 : decode cX16_broken 5 = .ok (.getfield 28, 3) := dk_180 0 28 (dk_at dksX16_broken_0 5 rfl rfl)
theorem dX16_broken_8 : decode cX16_broken 8 = .ok (.baload, 1) := dk_51 (dk_at dksX16_broken_0 8 rfl rfl)
theorem dX16_broken_9 : decode cX16_broken 9 = .ok (.ifCond .eq 7, 3) := dk_153 0 7 (dk_at dksX16_broken_0 9 rfl rfl)
theorem dX16_broken_12 : decode cX16_broken 12 = .ok (.iconst 1, 1) := dk_4 (dk_at dksX16_broken_0 12 rfl rfl)
theorem dX16_broken_13 : decode cX16_broken 13 = .ok (.goto 4, 3) := dk_167 0 4 (dk_at dksX16_broken_0 13 rfl rfl)
theorem dX16_broken_16 : decode cX16_broken 16 = .ok (.iconst 0, 1) := dk_3 (dk_at dksX16_broken_0 16 rfl rfl)
theorem dX16_broken_17 : decode cX16_broken 17 = .ok (.ireturn, 1) := dk_172 (dk_at dksX16_broken_0 17 rfl rfl)
abbrev cX16_init : ByteArray := prog_5_method_1_code
def yX16_init : MethodName := ⟨RX16, "<init>", "(III)V"⟩
def dkwX16_init_0 : List UInt8 := [42, 27, 28, 29, 183, 0, 3, 177]
abbrev dktX16_init_0 : List UInt8 := dkwX16_init_0 ++ []
theorem dksX16_init_0 : cX16_init.data.toList.drop 0 = dktX16_init_0 := by decide +kernel
theorem dX16_init_0 : decode cX16_init 0 = .ok (.aload_n 0, 1) := dk_42 (dk_at dksX16_init_0 0 rfl rfl)
theorem dX16_init_1 : decode cX16_init 1 = .ok (.iload_n 1, 1) := dk_27 (dk_at dksX16_init_0 1 rfl rfl)
theorem dX16_init_2 : decode cX16_init 2 = .ok (.iload_n 2, 1) := dk_28 (dk_at dksX16_init_0 2 rfl rfl)
theorem dX16_init_3 : decode cX16_init 3 = .ok (.iload_n 3, 1) := dk_29 (dk_at dksX16_init_0 3 rfl rfl)
theorem dX16_init_4 : decode cX16_init 4 = .ok (.invokespecial 3, 3) := dk_183 0 3 (dk_at dksX16_init_0 4 rfl rfl)
theorem dX16_init_7 : decode cX16_init 7 = .ok (.return_, 1) := dk_177 (dk_at dksX16_init_0 7 rfl rfl)
abbrev cX16_kind : ByteArray := prog_5_method_2_code
def yX16_kind : MethodName := ⟨RX16, "kind", "()I"⟩
theorem dX16_kind_0 : decode cX16_kind 0 = .ok (.iconst 4, 1) := by decide +kernel
theorem dX16_kind_1 : decode cX16_kind 1 = .ok (.ireturn, 1) := by decide +kernel
abbrev cX16_far : ByteArray := prog_5_method_3_code
def yX16_far : MethodName := ⟨RX16, "far", "(II)I"⟩
def dkwX16_far_0 : List UInt8 := [8, 42, 27, 28, 183, 0, 9, 184, 0, 13, 172]
abbrev dktX16_far_0 : List UInt8 := dkwX16_far_0 ++ []
theorem dksX16_far_0 : cX16_far.data.toList.drop 0 = dktX16_far_0 := by decide +kernel
theorem dX16_far_0 : decode cX16_far 0 = .ok (.iconst 5, 1) := dk_8 (dk_at dksX16_far_0 0 rfl rfl)
theorem dX16_far_1 : decode cX16_far 1 = .ok (.aload_n 0, 1) := dk_42 (dk_at dksX16_far_0 1 rfl rfl)
theorem dX16_far_2 : decode cX16_far 2 = .ok (.iload_n 1, 1) := dk_27 (dk_at dksX16_far_0 2 rfl rfl)
theorem dX16_far_3 : decode cX16_far 3 = .ok (.iload_n 2, 1) := dk_28 (dk_at dksX16_far_0 3 rfl rfl)
theorem dX16_far_4 : decode cX16_far 4 = .ok (.invokespecial 9, 3) := dk_183 0 9 (dk_at dksX16_far_0 4 rfl rfl)
theorem dX16_far_7 : decode cX16_far 7 = .ok (.invokestatic 13, 3) := dk_184 0 13 (dk_at dksX16_far_0 7 rfl rfl)
theorem dX16_far_10 : decode cX16_far 10 = .ok (.ireturn, 1) := dk_172 (dk_at dksX16_far_0 10 rfl rfl)
abbrev cX16_breaks : ByteArray := prog_5_method_4_code
def yX16_breaks : MethodName := ⟨RX16, "breaks", "()Z"⟩
def dkwX16_breaks_0 : List UInt8 := [42, 183, 0, 18, 154, 0, 7, 4, 167, 0, 4, 3, 172]
abbrev dktX16_breaks_0 : List UInt8 := dkwX16_breaks_0 ++ []
theorem dksX16_breaks_0 : cX16_breaks.data.toList.drop 0 = dktX16_breaks_0 := by decide +kernel
theorem dX16_breaks_0 : decode cX16_breaks 0 = .ok (.aload_n 0, 1) := dk_42 (dk_at dksX16_breaks_0 0 rfl rfl)
theorem dX16_breaks_1 : decode cX16_breaks 1 = .ok (.invokespecial 18, 3) := dk_183 0 18 (dk_at dksX16_breaks_0 1 rfl rfl)
theorem dX16_breaks_4 : decode cX16_breaks 4 = .ok (.ifCond .ne 7, 3) := dk_154 0 7 (dk_at dksX16_breaks_0 4 rfl rfl)
theorem dX16_breaks_7 : decode cX16_breaks 7 = .ok (.iconst 1, 1) := dk_4 (dk_at dksX16_breaks_0 7 rfl rfl)
theorem dX16_breaks_8 : decode cX16_breaks 8 = .ok (.goto 4, 3) := dk_167 0 4 (dk_at dksX16_breaks_0 8 rfl rfl)
theorem dX16_breaks_11 : decode cX16_breaks 11 = .ok (.iconst 0, 1) := dk_3 (dk_at dksX16_breaks_0 11 rfl rfl)
theorem dX16_breaks_12 : decode cX16_breaks 12 = .ok (.ireturn, 1) := dk_172 (dk_at dksX16_breaks_0 12 rfl rfl)
abbrev cX16_going : ByteArray := prog_5_method_6_code
def yX16_going : MethodName := ⟨RX16, "going", "(ILNoFartherThanAThrow$Trace;)I"⟩
def dkwX16_going_0 : List UInt8 := [44, 16, 70, 182, 0, 34, 42, 27, 44, 183, 0, 40, 5, 104, 172]
abbrev dktX16_going_0 : List UInt8 := dkwX16_going_0 ++ []
theorem dksX16_going_0 : cX16_going.data.toList.drop 0 = dktX16_going_0 := by decide +kernel
theorem dX16_going_0 : decode cX16_going 0 = .ok (.aload_n 2, 1) := dk_44 (dk_at dksX16_going_0 0 rfl rfl)
theorem dX16_going_1 : decode cX16_going 1 = .ok (.bipush 70, 2) := dk_16 70 (dk_at dksX16_going_0 1 rfl rfl)
theorem dX16_going_3 : decode cX16_going 3 = .ok (.invokevirtual 34, 3) := dk_182 0 34 (dk_at dksX16_going_0 3 rfl rfl)
theorem dX16_going_6 : decode cX16_going 6 = .ok (.aload_n 0, 1) := dk_42 (dk_at dksX16_going_0 6 rfl rfl)
theorem dX16_going_7 : decode cX16_going 7 = .ok (.iload_n 1, 1) := dk_27 (dk_at dksX16_going_0 7 rfl rfl)
theorem dX16_going_8 : decode cX16_going 8 = .ok (.aload_n 2, 1) := dk_44 (dk_at dksX16_going_0 8 rfl rfl)
theorem dX16_going_9 : decode cX16_going 9 = .ok (.invokespecial 40, 3) := dk_183 0 40 (dk_at dksX16_going_0 9 rfl rfl)
theorem dX16_going_12 : decode cX16_going 12 = .ok (.iconst 2, 1) := dk_5 (dk_at dksX16_going_0 12 rfl rfl)
theorem dX16_going_13 : decode cX16_going 13 = .ok (.imul, 1) := dk_104 (dk_at dksX16_going_0 13 rfl rfl)
theorem dX16_going_14 : decode cX16_going 14 = .ok (.ireturn, 1) := dk_172 (dk_at dksX16_going_0 14 rfl rfl)
abbrev cX16_falling : ByteArray := prog_5_method_7_code
def yX16_falling : MethodName := ⟨RX16, "falling", "(ILNoFartherThanAThrow$Trace;)I"⟩
def dkwX16_falling_0 : List UInt8 := [44, 16, 71, 182, 0, 34, 42, 27, 42, 180, 0, 44, 100, 44, 183, 0, 47, 172]
abbrev dktX16_falling_0 : List UInt8 := dkwX16_falling_0 ++ []
theorem dksX16_falling_0 : cX16_falling.data.toList.drop 0 = dktX16_falling_0 := by decide +kernel
theorem dX16_falling_0 : decode cX16_falling 0 = .ok (.aload_n 2, 1) := dk_44 (dk_at dksX16_falling_0 0 rfl rfl)
theorem dX16_falling_1 : decode cX16_falling 1 = .ok (.bipush 71, 2) := dk_16 71 (dk_at dksX16_falling_0 1 rfl rfl)
theorem dX16_falling_3 : decode cX16_falling 3 = .ok (.invokevirtual 34, 3) := dk_182 0 34 (dk_at dksX16_falling_0 3 rfl rfl)
theorem dX16_falling_6 : decode cX16_falling 6 = .ok (.aload_n 0, 1) := dk_42 (dk_at dksX16_falling_0 6 rfl rfl)
theorem dX16_falling_7 : decode cX16_falling 7 = .ok (.iload_n 1, 1) := dk_27 (dk_at dksX16_falling_0 7 rfl rfl)
theorem dX16_falling_8 : decode cX16_falling 8 = .ok (.aload_n 0, 1) := dk_42 (dk_at dksX16_falling_0 8 rfl rfl)
theorem dX16_falling_9 : decode cX16_falling 9 = .ok (.getfield 44, 3) := dk_180 0 44 (dk_at dksX16_falling_0 9 rfl rfl)
theorem dX16_falling_12 : decode cX16_falling 12 = .ok (.isub, 1) := dk_100 (dk_at dksX16_falling_0 12 rfl rfl)
theorem dX16_falling_13 : decode cX16_falling 13 = .ok (.aload_n 2, 1) := dk_44 (dk_at dksX16_falling_0 13 rfl rfl)
theorem dX16_falling_14 : decode cX16_falling 14 = .ok (.invokespecial 47, 3) := dk_183 0 47 (dk_at dksX16_falling_0 14 rfl rfl)
theorem dX16_falling_17 : decode cX16_falling 17 = .ok (.ireturn, 1) := dk_172 (dk_at dksX16_falling_0 17 rfl rfl)
theorem q105 : (Jvm.Cond.initialized "NoFartherThanAThrow$Glass") ∈ lw_all := lw_g (lw_at lw_m1 27 rfl) rfl
theorem q210 : (Jvm.Cond.fieldLink "NoFartherThanAThrow$Glass" (22 : Nat) "NoFartherThanAThrow$World" "broken" "[Z") ∈ lw_all := lw_g (lw_at lw_m1 132 rfl) rfl
theorem q642 : (Jvm.Cond.selects "NoFartherThanAThrow$Glass" ({ cls := "NoFartherThanAThrow$Thing", name := "can", desc := "(I)I" } : Jvm.MethodName) ({ cls := "NoFartherThanAThrow$Thing", name := "can", desc := "(I)I" } : Jvm.MethodName)) ∈ lw_all := lw_g (lw_at lw_m3 84 rfl) rfl
theorem q656 : (Jvm.Cond.selects "NoFartherThanAThrow$Glass" ({ cls := "NoFartherThanAThrow$Thing", name := "counts", desc := "()I" } : Jvm.MethodName) ({ cls := "NoFartherThanAThrow$Thing", name := "counts", desc := "()I" } : Jvm.MethodName)) ∈ lw_all := lw_g (lw_at lw_m3 98 rfl) rfl
theorem q676 : (Jvm.Cond.instanceMethod ({ cls := "NoFartherThanAThrow$Glass", name := "broken", desc := "(LNoFartherThanAThrow$World;)I" } : Jvm.MethodName)) ∈ lw_all := lw_g (lw_at lw_m3 118 rfl) rfl
theorem q677 : (Jvm.Cond.selects "NoFartherThanAThrow$Glass" ({ cls := "NoFartherThanAThrow$Glass", name := "broken", desc := "(LNoFartherThanAThrow$World;)I" } : Jvm.MethodName) ({ cls := "NoFartherThanAThrow$Glass", name := "broken", desc := "(LNoFartherThanAThrow$World;)I" } : Jvm.MethodName)) ∈ lw_all := lw_g (lw_at lw_m3 119 rfl) rfl
theorem q678 : (Jvm.Cond.code ({ cls := "NoFartherThanAThrow$Glass", name := "broken", desc := "(LNoFartherThanAThrow$World;)I" } : Jvm.MethodName) prog_5_method_5_code (2 : Nat) (Option.some Jvm.ClassFile.FieldType.int)) ∈ lw_all := lw_g (lw_at lw_m3 120 rfl) rfl
theorem q693 : (Jvm.Cond.selects "NoFartherThanAThrow$Glass" ({ cls := "NoFartherThanAThrow$Thing", name := "said", desc := "()I" } : Jvm.MethodName) ({ cls := "NoFartherThanAThrow$Thing", name := "said", desc := "()I" } : Jvm.MethodName)) ∈ lw_all := lw_g (lw_at lw_m3 135 rfl) rfl
theorem q735 : (Jvm.Cond.fieldLink "NoFartherThanAThrow$Glass" (28 : Nat) "NoFartherThanAThrow$Glass" "index" "I") ∈ lw_all := lw_g (lw_at lw_m3 177 rfl) rfl
theorem q736 : (Jvm.Cond.sameField "NoFartherThanAThrow$Glass" "NoFartherThanAThrow$Thing" "index" "I") ∈ lw_all := lw_g (lw_at lw_m3 178 rfl) rfl
theorem q743 : (Jvm.Cond.fieldLink "NoFartherThanAThrow$Glass" (44 : Nat) "NoFartherThanAThrow$Glass" "weight" "I") ∈ lw_all := lw_g (lw_at lw_m3 185 rfl) rfl
theorem q744 : (Jvm.Cond.sameField "NoFartherThanAThrow$Glass" "NoFartherThanAThrow$Thing" "weight" "I") ∈ lw_all := lw_g (lw_at lw_m3 186 rfl) rfl
theorem q780 : (Jvm.Cond.instantiable "NoFartherThanAThrow$Glass" (3 : Nat)) ∈ lw_all := lw_g (lw_at lw_m3 222 rfl) rfl
theorem q782 : (Jvm.Cond.instanceMethod ({ cls := "NoFartherThanAThrow$Glass", name := "<init>", desc := "(III)V" } : Jvm.MethodName)) ∈ lw_all := lw_g (lw_at lw_m3 224 rfl) rfl
theorem q783 : (Jvm.Cond.code ({ cls := "NoFartherThanAThrow$Glass", name := "<init>", desc := "(III)V" } : Jvm.MethodName) prog_5_method_1_code (4 : Nat) (Option.none : Option Jvm.ClassFile.FieldType)) ∈ lw_all := lw_g (lw_at lw_m3 225 rfl) rfl
theorem q784 : (Jvm.Cond.methodLink "NoFartherThanAThrow$Glass" (3 : Nat) ({ cls := "NoFartherThanAThrow$Thing", name := "<init>", desc := "(III)V" } : Jvm.MethodName)) ∈ lw_all := lw_g (lw_at lw_m3 226 rfl) rfl
theorem q785 : (Jvm.Cond.laysFinal "NoFartherThanAThrow$Glass" "NoFartherThanAThrow$Thing" "index" "I") ∈ lw_all := lw_g (lw_at lw_m3 227 rfl) rfl
theorem q786 : (Jvm.Cond.laysFinal "NoFartherThanAThrow$Glass" "NoFartherThanAThrow$Thing" "weight" "I") ∈ lw_all := lw_g (lw_at lw_m3 228 rfl) rfl
theorem q787 : (Jvm.Cond.laysFinal "NoFartherThanAThrow$Glass" "NoFartherThanAThrow$Thing" "extra" "I") ∈ lw_all := lw_g (lw_at lw_m3 229 rfl) rfl
theorem q788 : (Jvm.Cond.superclass "NoFartherThanAThrow$Glass" "NoFartherThanAThrow$Thing") ∈ lw_all := lw_g (lw_at lw_m3 230 rfl) rfl
theorem q895 : (Jvm.Cond.selects "NoFartherThanAThrow$Glass" ({ cls := "NoFartherThanAThrow$Thing", name := "kind", desc := "()I" } : Jvm.MethodName) ({ cls := "NoFartherThanAThrow$Glass", name := "kind", desc := "()I" } : Jvm.MethodName)) ∈ lw_all := lw_g (lw_at lw_m4 97 rfl) rfl
theorem q896 : (Jvm.Cond.instanceMethod ({ cls := "NoFartherThanAThrow$Glass", name := "kind", desc := "()I" } : Jvm.MethodName)) ∈ lw_all := lw_g (lw_at lw_m4 98 rfl) rfl
theorem q897 : (Jvm.Cond.code ({ cls := "NoFartherThanAThrow$Glass", name := "kind", desc := "()I" } : Jvm.MethodName) prog_5_method_2_code (1 : Nat) (Option.some Jvm.ClassFile.FieldType.int)) ∈ lw_all := lw_g (lw_at lw_m4 99 rfl) rfl
theorem q1095 : (Jvm.Cond.instanceMethod ({ cls := "NoFartherThanAThrow$Glass", name := "far", desc := "(II)I" } : Jvm.MethodName)) ∈ lw_all := lw_g (lw_at lw_m5 57 rfl) rfl
theorem q1096 : (Jvm.Cond.code ({ cls := "NoFartherThanAThrow$Glass", name := "far", desc := "(II)I" } : Jvm.MethodName) prog_5_method_3_code (3 : Nat) (Option.some Jvm.ClassFile.FieldType.int)) ∈ lw_all := lw_g (lw_at lw_m5 58 rfl) rfl
theorem q1097 : (Jvm.Cond.methodLink "NoFartherThanAThrow$Glass" (9 : Nat) ({ cls := "NoFartherThanAThrow$Thing", name := "far", desc := "(II)I" } : Jvm.MethodName)) ∈ lw_all := lw_g (lw_at lw_m5 59 rfl) rfl
theorem q1098 : (Jvm.Cond.methodLink "NoFartherThanAThrow$Glass" (13 : Nat) ({ cls := "java/lang/Math", name := "min", desc := "(II)I" } : Jvm.MethodName)) ∈ lw_all := lw_g (lw_at lw_m5 60 rfl) rfl
theorem q1276 : (Jvm.Cond.selects "NoFartherThanAThrow$Glass" ({ cls := "NoFartherThanAThrow$Thing", name := "breaks", desc := "()Z" } : Jvm.MethodName) ({ cls := "NoFartherThanAThrow$Glass", name := "breaks", desc := "()Z" } : Jvm.MethodName)) ∈ lw_all := lw_g (lw_at lw_m5 238 rfl) rfl
theorem q1277 : (Jvm.Cond.instanceMethod ({ cls := "NoFartherThanAThrow$Glass", name := "breaks", desc := "()Z" } : Jvm.MethodName)) ∈ lw_all := lw_g (lw_at lw_m5 239 rfl) rfl
theorem q1278 : (Jvm.Cond.code ({ cls := "NoFartherThanAThrow$Glass", name := "breaks", desc := "()Z" } : Jvm.MethodName) prog_5_method_4_code (1 : Nat) (Option.some Jvm.ClassFile.FieldType.boolean)) ∈ lw_all := lw_g (lw_at lw_m6 0 rfl) rfl
theorem q1279 : (Jvm.Cond.methodLink "NoFartherThanAThrow$Glass" (18 : Nat) ({ cls := "NoFartherThanAThrow$Thing", name := "breaks", desc := "()Z" } : Jvm.MethodName)) ∈ lw_all := lw_g (lw_at lw_m6 1 rfl) rfl
theorem q1313 : (Jvm.Cond.selects "NoFartherThanAThrow$Glass" ({ cls := "NoFartherThanAThrow$Thing", name := "going", desc := "(ILNoFartherThanAThrow$Trace;)I" } : Jvm.MethodName) ({ cls := "NoFartherThanAThrow$Glass", name := "going", desc := "(ILNoFartherThanAThrow$Trace;)I" } : Jvm.MethodName)) ∈ lw_all := lw_g (lw_at lw_m6 35 rfl) rfl
theorem q1314 : (Jvm.Cond.instanceMethod ({ cls := "NoFartherThanAThrow$Glass", name := "going", desc := "(ILNoFartherThanAThrow$Trace;)I" } : Jvm.MethodName)) ∈ lw_all := lw_g (lw_at lw_m6 36 rfl) rfl
theorem q1315 : (Jvm.Cond.code ({ cls := "NoFartherThanAThrow$Glass", name := "going", desc := "(ILNoFartherThanAThrow$Trace;)I" } : Jvm.MethodName) prog_5_method_6_code (3 : Nat) (Option.some Jvm.ClassFile.FieldType.int)) ∈ lw_all := lw_g (lw_at lw_m6 37 rfl) rfl
theorem q1316 : (Jvm.Cond.methodLink "NoFartherThanAThrow$Glass" (34 : Nat) ({ cls := "NoFartherThanAThrow$Trace", name := "runs", desc := "(I)V" } : Jvm.MethodName)) ∈ lw_all := lw_g (lw_at lw_m6 38 rfl) rfl
theorem q1320 : (Jvm.Cond.methodLink "NoFartherThanAThrow$Glass" (40 : Nat) ({ cls := "NoFartherThanAThrow$Thing", name := "going", desc := "(ILNoFartherThanAThrow$Trace;)I" } : Jvm.MethodName)) ∈ lw_all := lw_g (lw_at lw_m6 42 rfl) rfl
theorem q1348 : (Jvm.Cond.selects "NoFartherThanAThrow$Glass" ({ cls := "NoFartherThanAThrow$Thing", name := "resting", desc := "(ILNoFartherThanAThrow$Trace;)I" } : Jvm.MethodName) ({ cls := "NoFartherThanAThrow$Thing", name := "resting", desc := "(ILNoFartherThanAThrow$Trace;)I" } : Jvm.MethodName)) ∈ lw_all := lw_g (lw_at lw_m6 70 rfl) rfl
theorem q1366 : (Jvm.Cond.selects "NoFartherThanAThrow$Glass" ({ cls := "NoFartherThanAThrow$Thing", name := "falling", desc := "(ILNoFartherThanAThrow$Trace;)I" } : Jvm.MethodName) ({ cls := "NoFartherThanAThrow$Glass", name := "falling", desc := "(ILNoFartherThanAThrow$Trace;)I" } : Jvm.MethodName)) ∈ lw_all := lw_g (lw_at lw_m6 88 rfl) rfl
theorem q1367 : (Jvm.Cond.instanceMethod ({ cls := "NoFartherThanAThrow$Glass", name := "falling", desc := "(ILNoFartherThanAThrow$Trace;)I" } : Jvm.MethodName)) ∈ lw_all := lw_g (lw_at lw_m6 89 rfl) rfl
theorem q1368 : (Jvm.Cond.code ({ cls := "NoFartherThanAThrow$Glass", name := "falling", desc := "(ILNoFartherThanAThrow$Trace;)I" } : Jvm.MethodName) prog_5_method_7_code (3 : Nat) (Option.some Jvm.ClassFile.FieldType.int)) ∈ lw_all := lw_g (lw_at lw_m6 90 rfl) rfl
theorem q1369 : (Jvm.Cond.methodLink "NoFartherThanAThrow$Glass" (47 : Nat) ({ cls := "NoFartherThanAThrow$Thing", name := "falling", desc := "(ILNoFartherThanAThrow$Trace;)I" } : Jvm.MethodName)) ∈ lw_all := lw_g (lw_at lw_m6 91 rfl) rfl
theorem q1935 : (Jvm.Cond.selects "NoFartherThanAThrow$Glass" ({ cls := "NoFartherThanAThrow$Thing", name := "far", desc := "(II)I" } : Jvm.MethodName) ({ cls := "NoFartherThanAThrow$Glass", name := "far", desc := "(II)I" } : Jvm.MethodName)) ∈ lw_all := lw_g (lw_at lw_m8 177 rfl) rfl
theorem q1950 : (Jvm.Cond.castable "NoFartherThanAThrow$Glass" "NoFartherThanAThrow$Thing") ∈ lw_tbl := lw_at lw_m8 192 rfl
theorem in_X16 : ∀ w ∈ wsX160, w ∈ lw_all := lw_in wsX160 [785, 786, 787] (by decide +kernel) (by decide +kernel)
/-! NoFartherThanAThrow$Parted -/
set_option maxRecDepth 100000
def RX17 : String := "NoFartherThanAThrow$Parted"
def TX17 : u_T := fun k => match k with
  | 0 => ("NoFartherThanAThrow$Thing", "index", "I", true)
  | 1 => ("NoFartherThanAThrow$Thing", "weight", "I", true)
  | _ => ("NoFartherThanAThrow$Thing", "extra", "I", true)
def tyX17 : Nat → FieldType := fun k => match k with
  | 0 => .int
  | 1 => .int
  | _ => .int
abbrev wsX170 : List Cond := u_ws RX17 TX17 3
theorem nmX17 : ∀ a, a < 3 → ∀ b, b < 3 → a ≠ b → (TX17 a).2.1 ≠ (TX17 b).2.1 := by decide +kernel
theorem tyX17_ok : ∀ k, k < 3 → parseFieldDescriptor (TX17 k).2.2.1 = some (tyX17 k) := by decide +kernel
abbrev cX17_counts : ByteArray := prog_10_method_3_code
def yX17_counts : MethodName := ⟨RX17, "counts", "()I"⟩
def dkwX17_counts_0 : List UInt8 := [42, 183, 0, 9, 42, 180, 0, 13, 96, 4, 100, 42, 180, 0, 13, 108, 172]
abbrev dktX17_counts_0 : List UInt8 := dkwX17_counts_0 ++ []
theorem dksX17_counts_0 : cX17_counts.data.toList.drop 0 = dktX17_counts_0 := by decide +kernel
theorem dX17_counts_0 : decode cX17_counts 0 = .ok (.aload_n 0, 1) := dk_42 (dk_at dksX17_counts_0 0 rfl rfl)
theorem dX17_counts_1 : decode cX17_counts 1 = .ok (.invokespecial 9, 3) := dk_183 0 9 (dk_at dksX17_counts_0 1 rfl rfl)
theorem dX17_counts_4 : decode cX17_counts 4 = .ok (.aload_n 0, 1) := dk_42 (dk_at dksX17_counts_0 4 rfl rfl)
theorem dX17_counts_5 : decode cX17_counts 5 = .ok (.getfield 13, 3) := dk_180 0 13 (dk_at dksX17_counts_0 5 rfl rfl)
theorem dX17_counts_8 : decode cX17_counts 8 = .ok (.iadd, 1) := dk_96 (dk_at dksX17_counts_0 8 rfl rfl)
theorem dX17_counts_9 : decode cX17_counts 9 = .ok (.iconst 1, 1) := dk_4 (dk_at dksX17_counts_0 9 rfl rfl)
theorem dX17_counts_10 : decode cX17_counts 10 = .ok (.isub, 1) := dk_100 (dk_at dksX17_counts_0 10 rfl rfl)
theorem dX17_counts_11 : decode cX17_counts 11 = .ok (.aload_n 0, 1) := dk_42 (dk_at dksX17_counts_0 11 rfl rfl)
theorem dX17_counts_12 : decode cX17_counts 12 = .ok (.getfield 13, 3) := dk_180 0 13 (dk_at dksX17_counts_0 12 rfl rfl)
theorem dX17_counts_15 : decode cX17_counts 15 = .ok (.idiv, 1) := dk_108 (dk_at dksX17_counts_0 15 rfl rfl)
theorem dX17_counts_16 : decode cX17_counts 16 = .ok (.ireturn, 1) := dk_172 (dk_at dksX17_counts_0 16 rfl rfl)
abbrev cX17_init : ByteArray := prog_10_method_1_code
def yX17_init : MethodName := ⟨RX17, "<init>", "(III)V"⟩
def dkwX17_init_0 : List UInt8 := [42, 27, 28, 29, 183, 0, 3, 177]
abbrev dktX17_init_0 : List UInt8 := dkwX17_init_0 ++ []
theorem dksX17_init_0 : cX17_init.data.toList.drop 0 = dktX17_init_0 := by decide +kernel
theorem dX17_init_0 : decode cX17_init 0 = .ok (.aload_n 0, 1) := dk_42 (dk_at dksX17_init_0 0 rfl rfl)
theorem dX17_init_1 : decode cX17_init 1 = .ok (.iload_n 1, 1) := dk_27 (dk_at dksX17_init_0 1 rfl rfl)
theorem dX17_init_2 : decode cX17_init 2 = .ok (.iload_n 2, 1) := dk_28 (dk_at dksX17_init_0 2 rfl rfl)
theorem dX17_init_3 : decode cX17_init 3 = .ok (.iload_n 3, 1) := dk_29 (dk_at dksX17_init_0 3 rfl rfl)
theorem dX17_init_4 : decode cX17_init 4 = .ok (.invokespecial 3, 3) := dk_183 0 3 (dk_at dksX17_init_0 4 rfl rfl)
theorem dX17_init_7 : decode cX17_init 7 = .ok (.return_, 1) := dk_177 (dk_at dksX17_init_0 7 rfl rfl)
abbrev cX17_kind : ByteArray := prog_10_method_2_code
def yX17_kind : MethodName := ⟨RX17, "kind", "()I"⟩
theorem dX17_kind_0 : decode cX17_kind 0 = .ok (.iconst 5, 1) := by decide +kernel
theorem dX17_kind_1 : decode cX17_kind 1 = .ok (.ireturn, 1) := by decide +kernel
abbrev cX17_resting : ByteArray := prog_10_method_4_code
def yX17_resting : MethodName := ⟨RX17, "resting", "(ILNoFartherThanAThrow$Trace;)I"⟩
def dkwX17_resting_0 : List UInt8 := [44, 16, 30, 182, 0, 19, 42, 27, 44, 183, 0, 25, 6, 104, 172]
abbrev dktX17_resting_0 : List UInt8 := dkwX17_resting_0 ++ []
theorem dksX17_resting_0 : cX17_resting.data.toList.drop 0 = dktX17_resting_0 := by decide +kernel
theorem dX17_resting_0 : decode cX17_resting 0 = .ok (.aload_n 2, 1) := dk_44 (dk_at dksX17_resting_0 0 rfl rfl)
theorem dX17_resting_1 : decode cX17_resting 1 = .ok (.bipush 30, 2) := dk_16 30 (dk_at dksX17_resting_0 1 rfl rfl)
theorem dX17_resting_3 : decode cX17_resting 3 = .ok (.invokevirtual 19, 3) := dk_182 0 19 (dk_at dksX17_resting_0 3 rfl rfl)
theorem dX17_resting_6 : decode cX17_resting 6 = .ok (.aload_n 0, 1) := dk_42 (dk_at dksX17_resting_0 6 rfl rfl)
theorem dX17_resting_7 : decode cX17_resting 7 = .ok (.iload_n 1, 1) := dk_27 (dk_at dksX17_resting_0 7 rfl rfl)
theorem dX17_resting_8 : decode cX17_resting 8 = .ok (.aload_n 2, 1) := dk_44 (dk_at dksX17_resting_0 8 rfl rfl)
theorem dX17_resting_9 : decode cX17_resting 9 = .ok (.invokespecial 25, 3) := dk_183 0 25 (dk_at dksX17_resting_0 9 rfl rfl)
theorem dX17_resting_12 : decode cX17_resting 12 = .ok (.iconst 3, 1) := dk_6 (dk_at dksX17_resting_0 12 rfl rfl)
theorem dX17_resting_13 : decode cX17_resting 13 = .ok (.imul, 1) := dk_104 (dk_at dksX17_resting_0 13 rfl rfl)
theorem dX17_resting_14 : decode cX17_resting 14 = .ok (.ireturn, 1) := dk_172 (dk_at dksX17_resting_0 14 rfl rfl)
theorem q106 : (Jvm.Cond.initialized "NoFartherThanAThrow$Parted") ∈ lw_all := lw_g (lw_at lw_m1 28 rfl) rfl
theorem q619 : (Jvm.Cond.selects "NoFartherThanAThrow$Parted" ({ cls := "NoFartherThanAThrow$Heavy", name := "more", desc := "()I" } : Jvm.MethodName) ({ cls := "NoFartherThanAThrow$Heavy", name := "more", desc := "()I" } : Jvm.MethodName)) ∈ lw_all := lw_g (lw_at lw_m3 61 rfl) rfl
theorem q645 : (Jvm.Cond.selects "NoFartherThanAThrow$Parted" ({ cls := "NoFartherThanAThrow$Thing", name := "can", desc := "(I)I" } : Jvm.MethodName) ({ cls := "NoFartherThanAThrow$Thing", name := "can", desc := "(I)I" } : Jvm.MethodName)) ∈ lw_all := lw_g (lw_at lw_m3 87 rfl) rfl
theorem q659 : (Jvm.Cond.selects "NoFartherThanAThrow$Parted" ({ cls := "NoFartherThanAThrow$Thing", name := "counts", desc := "()I" } : Jvm.MethodName) ({ cls := "NoFartherThanAThrow$Parted", name := "counts", desc := "()I" } : Jvm.MethodName)) ∈ lw_all := lw_g (lw_at lw_m3 101 rfl) rfl
theorem q660 : (Jvm.Cond.instanceMethod ({ cls := "NoFartherThanAThrow$Parted", name := "counts", desc := "()I" } : Jvm.MethodName)) ∈ lw_all := lw_g (lw_at lw_m3 102 rfl) rfl
theorem q661 : (Jvm.Cond.code ({ cls := "NoFartherThanAThrow$Parted", name := "counts", desc := "()I" } : Jvm.MethodName) prog_10_method_3_code (1 : Nat) (Option.some Jvm.ClassFile.FieldType.int)) ∈ lw_all := lw_g (lw_at lw_m3 103 rfl) rfl
theorem q662 : (Jvm.Cond.methodLink "NoFartherThanAThrow$Parted" (9 : Nat) ({ cls := "NoFartherThanAThrow$Heavy", name := "counts", desc := "()I" } : Jvm.MethodName)) ∈ lw_all := lw_g (lw_at lw_m3 104 rfl) rfl
theorem q665 : (Jvm.Cond.superclass "NoFartherThanAThrow$Parted" "NoFartherThanAThrow$Heavy") ∈ lw_all := lw_g (lw_at lw_m3 107 rfl) rfl
theorem q681 : (Jvm.Cond.sameMethod "NoFartherThanAThrow$Parted" "NoFartherThanAThrow$Heavy" "more" "()I") ∈ lw_all := lw_g (lw_at lw_m3 123 rfl) rfl
theorem q683 : (Jvm.Cond.selects "NoFartherThanAThrow$Parted" ({ cls := "NoFartherThanAThrow$Parted", name := "more", desc := "()I" } : Jvm.MethodName) ({ cls := "NoFartherThanAThrow$Heavy", name := "more", desc := "()I" } : Jvm.MethodName)) ∈ lw_all := lw_g (lw_at lw_m3 125 rfl) rfl
theorem q696 : (Jvm.Cond.selects "NoFartherThanAThrow$Parted" ({ cls := "NoFartherThanAThrow$Thing", name := "said", desc := "()I" } : Jvm.MethodName) ({ cls := "NoFartherThanAThrow$Thing", name := "said", desc := "()I" } : Jvm.MethodName)) ∈ lw_all := lw_g (lw_at lw_m3 138 rfl) rfl
theorem q748 : (Jvm.Cond.fieldLink "NoFartherThanAThrow$Parted" (13 : Nat) "NoFartherThanAThrow$Parted" "extra" "I") ∈ lw_all := lw_g (lw_at lw_m3 190 rfl) rfl
theorem q749 : (Jvm.Cond.sameField "NoFartherThanAThrow$Parted" "NoFartherThanAThrow$Thing" "extra" "I") ∈ lw_all := lw_g (lw_at lw_m3 191 rfl) rfl
theorem q790 : (Jvm.Cond.instantiable "NoFartherThanAThrow$Parted" (3 : Nat)) ∈ lw_all := lw_g (lw_at lw_m3 232 rfl) rfl
theorem q792 : (Jvm.Cond.instanceMethod ({ cls := "NoFartherThanAThrow$Parted", name := "<init>", desc := "(III)V" } : Jvm.MethodName)) ∈ lw_all := lw_g (lw_at lw_m3 234 rfl) rfl
theorem q793 : (Jvm.Cond.code ({ cls := "NoFartherThanAThrow$Parted", name := "<init>", desc := "(III)V" } : Jvm.MethodName) prog_10_method_1_code (4 : Nat) (Option.none : Option Jvm.ClassFile.FieldType)) ∈ lw_all := lw_g (lw_at lw_m3 235 rfl) rfl
theorem q794 : (Jvm.Cond.methodLink "NoFartherThanAThrow$Parted" (3 : Nat) ({ cls := "NoFartherThanAThrow$Heavy", name := "<init>", desc := "(III)V" } : Jvm.MethodName)) ∈ lw_all := lw_g (lw_at lw_m3 236 rfl) rfl
theorem q795 : (Jvm.Cond.laysFinal "NoFartherThanAThrow$Parted" "NoFartherThanAThrow$Thing" "index" "I") ∈ lw_all := lw_g (lw_at lw_m3 237 rfl) rfl
theorem q796 : (Jvm.Cond.laysFinal "NoFartherThanAThrow$Parted" "NoFartherThanAThrow$Thing" "weight" "I") ∈ lw_all := lw_g (lw_at lw_m3 238 rfl) rfl
theorem q797 : (Jvm.Cond.laysFinal "NoFartherThanAThrow$Parted" "NoFartherThanAThrow$Thing" "extra" "I") ∈ lw_all := lw_g (lw_at lw_m3 239 rfl) rfl
theorem q904 : (Jvm.Cond.selects "NoFartherThanAThrow$Parted" ({ cls := "NoFartherThanAThrow$Thing", name := "kind", desc := "()I" } : Jvm.MethodName) ({ cls := "NoFartherThanAThrow$Parted", name := "kind", desc := "()I" } : Jvm.MethodName)) ∈ lw_all := lw_g (lw_at lw_m4 106 rfl) rfl
theorem q905 : (Jvm.Cond.instanceMethod ({ cls := "NoFartherThanAThrow$Parted", name := "kind", desc := "()I" } : Jvm.MethodName)) ∈ lw_all := lw_g (lw_at lw_m4 107 rfl) rfl
theorem q906 : (Jvm.Cond.code ({ cls := "NoFartherThanAThrow$Parted", name := "kind", desc := "()I" } : Jvm.MethodName) prog_10_method_2_code (1 : Nat) (Option.some Jvm.ClassFile.FieldType.int)) ∈ lw_all := lw_g (lw_at lw_m4 108 rfl) rfl
theorem q1105 : (Jvm.Cond.selects "NoFartherThanAThrow$Parted" ({ cls := "NoFartherThanAThrow$Heavy", name := "can", desc := "(I)I" } : Jvm.MethodName) ({ cls := "NoFartherThanAThrow$Thing", name := "can", desc := "(I)I" } : Jvm.MethodName)) ∈ lw_all := lw_g (lw_at lw_m5 67 rfl) rfl
theorem q1282 : (Jvm.Cond.selects "NoFartherThanAThrow$Parted" ({ cls := "NoFartherThanAThrow$Thing", name := "breaks", desc := "()Z" } : Jvm.MethodName) ({ cls := "NoFartherThanAThrow$Thing", name := "breaks", desc := "()Z" } : Jvm.MethodName)) ∈ lw_all := lw_g (lw_at lw_m6 4 rfl) rfl
theorem q1327 : (Jvm.Cond.selects "NoFartherThanAThrow$Parted" ({ cls := "NoFartherThanAThrow$Thing", name := "going", desc := "(ILNoFartherThanAThrow$Trace;)I" } : Jvm.MethodName) ({ cls := "NoFartherThanAThrow$Heavy", name := "going", desc := "(ILNoFartherThanAThrow$Trace;)I" } : Jvm.MethodName)) ∈ lw_all := lw_g (lw_at lw_m6 49 rfl) rfl
theorem q1351 : (Jvm.Cond.selects "NoFartherThanAThrow$Parted" ({ cls := "NoFartherThanAThrow$Thing", name := "resting", desc := "(ILNoFartherThanAThrow$Trace;)I" } : Jvm.MethodName) ({ cls := "NoFartherThanAThrow$Parted", name := "resting", desc := "(ILNoFartherThanAThrow$Trace;)I" } : Jvm.MethodName)) ∈ lw_all := lw_g (lw_at lw_m6 73 rfl) rfl
theorem q1352 : (Jvm.Cond.instanceMethod ({ cls := "NoFartherThanAThrow$Parted", name := "resting", desc := "(ILNoFartherThanAThrow$Trace;)I" } : Jvm.MethodName)) ∈ lw_all := lw_g (lw_at lw_m6 74 rfl) rfl
theorem q1353 : (Jvm.Cond.code ({ cls := "NoFartherThanAThrow$Parted", name := "resting", desc := "(ILNoFartherThanAThrow$Trace;)I" } : Jvm.MethodName) prog_10_method_4_code (3 : Nat) (Option.some Jvm.ClassFile.FieldType.int)) ∈ lw_all := lw_g (lw_at lw_m6 75 rfl) rfl
theorem q1354 : (Jvm.Cond.methodLink "NoFartherThanAThrow$Parted" (19 : Nat) ({ cls := "NoFartherThanAThrow$Trace", name := "runs", desc := "(I)V" } : Jvm.MethodName)) ∈ lw_all := lw_g (lw_at lw_m6 76 rfl) rfl
theorem q1355 : (Jvm.Cond.methodLink "NoFartherThanAThrow$Parted" (25 : Nat) ({ cls := "NoFartherThanAThrow$Heavy", name := "resting", desc := "(ILNoFartherThanAThrow$Trace;)I" } : Jvm.MethodName)) ∈ lw_all := lw_g (lw_at lw_m6 77 rfl) rfl
theorem q1372 : (Jvm.Cond.selects "NoFartherThanAThrow$Parted" ({ cls := "NoFartherThanAThrow$Thing", name := "falling", desc := "(ILNoFartherThanAThrow$Trace;)I" } : Jvm.MethodName) ({ cls := "NoFartherThanAThrow$Thing", name := "falling", desc := "(ILNoFartherThanAThrow$Trace;)I" } : Jvm.MethodName)) ∈ lw_all := lw_g (lw_at lw_m6 94 rfl) rfl
theorem q1938 : (Jvm.Cond.selects "NoFartherThanAThrow$Parted" ({ cls := "NoFartherThanAThrow$Thing", name := "far", desc := "(II)I" } : Jvm.MethodName) ({ cls := "NoFartherThanAThrow$Heavy", name := "far", desc := "(II)I" } : Jvm.MethodName)) ∈ lw_all := lw_g (lw_at lw_m8 180 rfl) rfl
theorem q1953 : (Jvm.Cond.castable "NoFartherThanAThrow$Parted" "NoFartherThanAThrow$Thing") ∈ lw_tbl := lw_at lw_m8 195 rfl
theorem q1955 : (Jvm.Cond.castable "NoFartherThanAThrow$Parted" "NoFartherThanAThrow$Heavy") ∈ lw_tbl := lw_at lw_m8 197 rfl
theorem in_X17 : ∀ w ∈ wsX170, w ∈ lw_all := lw_in wsX170 [795, 796, 797] (by decide +kernel) (by decide +kernel)
/-! NoFartherThanAThrow$Round -/
set_option maxRecDepth 100000
def RX18 : String := "NoFartherThanAThrow$Round"
def TX18 : u_T := fun k => match k with
  | 0 => ("NoFartherThanAThrow$Thing", "index", "I", true)
  | 1 => ("NoFartherThanAThrow$Thing", "weight", "I", true)
  | _ => ("NoFartherThanAThrow$Thing", "extra", "I", true)
def tyX18 : Nat → FieldType := fun k => match k with
  | 0 => .int
  | 1 => .int
  | _ => .int
abbrev wsX180 : List Cond := u_ws RX18 TX18 3
theorem nmX18 : ∀ a, a < 3 → ∀ b, b < 3 → a ≠ b → (TX18 a).2.1 ≠ (TX18 b).2.1 := by decide +kernel
theorem tyX18_ok : ∀ k, k < 3 → parseFieldDescriptor (TX18 k).2.2.1 = some (tyX18 k) := by decide +kernel
abbrev cX18_init : ByteArray := prog_13_method_1_code
def yX18_init : MethodName := ⟨RX18, "<init>", "(III)V"⟩
def dkwX18_init_0 : List UInt8 := [42, 27, 28, 29, 183, 0, 3, 177]
abbrev dktX18_init_0 : List UInt8 := dkwX18_init_0 ++ []
theorem dksX18_init_0 : cX18_init.data.toList.drop 0 = dktX18_init_0 := by decide +kernel
theorem dX18_init_0 : decode cX18_init 0 = .ok (.aload_n 0, 1) := dk_42 (dk_at dksX18_init_0 0 rfl rfl)
theorem dX18_init_1 : decode cX18_init 1 = .ok (.iload_n 1, 1) := dk_27 (dk_at dksX18_init_0 1 rfl rfl)
theorem dX18_init_2 : decode cX18_init 2 = .ok (.iload_n 2, 1) := dk_28 (dk_at dksX18_init_0 2 rfl rfl)
theorem dX18_init_3 : decode cX18_init 3 = .ok (.iload_n 3, 1) := dk_29 (dk_at dksX18_init_0 3 rfl rfl)
theorem dX18_init_4 : decode cX18_init 4 = .ok (.invokespecial 3, 3) := dk_183 0 3 (dk_at dksX18_init_0 4 rfl rfl)
theorem dX18_init_7 : decode cX18_init 7 = .ok (.return_, 1) := dk_177 (dk_at dksX18_init_0 7 rfl rfl)
abbrev cX18_kind : ByteArray := prog_13_method_2_code
def yX18_kind : MethodName := ⟨RX18, "kind", "()I"⟩
theorem dX18_kind_0 : decode cX18_kind 0 = .ok (.bipush 6, 2) := by decide +kernel
theorem dX18_kind_2 : decode cX18_kind 2 = .ok (.ireturn, 1) := by decide +kernel
abbrev cX18_far : ByteArray := prog_13_method_3_code
def yX18_far : MethodName := ⟨RX18, "far", "(II)I"⟩
def dkwX18_far_0 : List UInt8 := [42, 27, 28, 183, 0, 9, 42, 180, 0, 13, 96, 172]
abbrev dktX18_far_0 : List UInt8 := dkwX18_far_0 ++ []
theorem dksX18_far_0 : cX18_far.data.toList.drop 0 = dktX18_far_0 := by decide +kernel
theorem dX18_far_0 : decode cX18_far 0 = .ok (.aload_n 0, 1) := dk_42 (dk_at dksX18_far_0 0 rfl rfl)
theorem dX18_far_1 : decode cX18_far 1 = .ok (.iload_n 1, 1) := dk_27 (dk_at dksX18_far_0 1 rfl rfl)
theorem dX18_far_2 : decode cX18_far 2 = .ok (.iload_n 2, 1) := dk_28 (dk_at dksX18_far_0 2 rfl rfl)
theorem dX18_far_3 : decode cX18_far 3 = .ok (.invokespecial 9, 3) := dk_183 0 9 (dk_at dksX18_far_0 3 rfl rfl)
theorem dX18_far_6 : decode cX18_far 6 = .ok (.aload_n 0, 1) := dk_42 (dk_at dksX18_far_0 6 rfl rfl)
theorem dX18_far_7 : decode cX18_far 7 = .ok (.getfield 13, 3) := dk_180 0 13 (dk_at dksX18_far_0 7 rfl rfl)
theorem dX18_far_10 : decode cX18_far 10 = .ok (.iadd, 1) := dk_96 (dk_at dksX18_far_0 10 rfl rfl)
theorem dX18_far_11 : decode cX18_far 11 = .ok (.ireturn, 1) := dk_172 (dk_at dksX18_far_0 11 rfl rfl)
abbrev cX18_going : ByteArray := prog_13_method_4_code
def yX18_going : MethodName := ⟨RX18, "going", "(ILNoFartherThanAThrow$Trace;)I"⟩
def dkwX18_going_0 : List UInt8 := [44, 16, 40, 182, 0, 19, 42, 27, 4, 96, 44, 183, 0, 25, 172]
abbrev dktX18_going_0 : List UInt8 := dkwX18_going_0 ++ []
theorem dksX18_going_0 : cX18_going.data.toList.drop 0 = dktX18_going_0 := by decide +kernel
theorem dX18_going_0 : decode cX18_going 0 = .ok (.aload_n 2, 1) := dk_44 (dk_at dksX18_going_0 0 rfl rfl)
theorem dX18_going_1 : decode cX18_going 1 = .ok (.bipush 40, 2) := dk_16 40 (dk_at dksX18_going_0 1 rfl rfl)
theorem dX18_going_3 : decode cX18_going 3 = .ok (.invokevirtual 19, 3) := dk_182 0 19 (dk_at dksX18_going_0 3 rfl rfl)
theorem dX18_going_6 : decode cX18_going 6 = .ok (.aload_n 0, 1) := dk_42 (dk_at dksX18_going_0 6 rfl rfl)
theorem dX18_going_7 : decode cX18_going 7 = .ok (.iload_n 1, 1) := dk_27 (dk_at dksX18_going_0 7 rfl rfl)
theorem dX18_going_8 : decode cX18_going 8 = .ok (.iconst 1, 1) := dk_4 (dk_at dksX18_going_0 8 rfl rfl)
theorem dX18_going_9 : decode cX18_going 9 = .ok (.iadd, 1) := dk_96 (dk_at dksX18_going_0 9 rfl rfl)
theorem dX18_going_10 : decode cX18_going 10 = .ok (.aload_n 2, 1) := dk_44 (dk_at dksX18_going_0 10 rfl rfl)
theorem dX18_going_11 : decode cX18_going 11 = .ok (.invokespecial 25, 3) := dk_183 0 25 (dk_at dksX18_going_0 11 rfl rfl)
theorem dX18_going_14 : decode cX18_going 14 = .ok (.ireturn, 1) := dk_172 (dk_at dksX18_going_0 14 rfl rfl)
abbrev cX18_falling : ByteArray := prog_13_method_5_code
def yX18_falling : MethodName := ⟨RX18, "falling", "(ILNoFartherThanAThrow$Trace;)I"⟩
def dkwX18_falling_0 : List UInt8 := [44, 16, 41, 182, 0, 19, 42, 27, 44, 183, 0, 29, 42, 180, 0, 32, 100, 172]
abbrev dktX18_falling_0 : List UInt8 := dkwX18_falling_0 ++ []
theorem dksX18_falling_0 : cX18_falling.data.toList.drop 0 = dktX18_falling_0 := by decide +kernel
theorem dX18_falling_0 : decode cX18_falling 0 = .ok (.aload_n 2, 1) := dk_44 (dk_at dksX18_falling_0 0 rfl rfl)
theorem dX18_falling_1 : decode cX18_falling 1 = .ok (.bipush 41, 2) := dk_16 41 (dk_at dksX18_falling_0 1 rfl rfl)
theorem dX18_falling_3 : decode cX18_falling 3 = .ok (.invokevirtual 19, 3) := dk_182 0 19 (dk_at dksX18_falling_0 3 rfl rfl)
theorem dX18_falling_6 : decode cX18_falling 6 = .ok (.aload_n 0, 1) := dk_42 (dk_at dksX18_falling_0 6 rfl rfl)
theorem dX18_falling_7 : decode cX18_falling 7 = .ok (.iload_n 1, 1) := dk_27 (dk_at dksX18_falling_0 7 rfl rfl)
theorem dX18_falling_8 : decode cX18_falling 8 = .ok (.aload_n 2, 1) := dk_44 (dk_at dksX18_falling_0 8 rfl rfl)
theorem dX18_falling_9 : decode cX18_falling 9 = .ok (.invokespecial 29, 3) := dk_183 0 29 (dk_at dksX18_falling_0 9 rfl rfl)
theorem dX18_falling_12 : decode cX18_falling 12 = .ok (.aload_n 0, 1) := dk_42 (dk_at dksX18_falling_0 12 rfl rfl)
theorem dX18_falling_13 : decode cX18_falling 13 = .ok (.getfield 32, 3) := dk_180 0 32 (dk_at dksX18_falling_0 13 rfl rfl)
theorem dX18_falling_16 : decode cX18_falling 16 = .ok (.isub, 1) := dk_100 (dk_at dksX18_falling_0 16 rfl rfl)
theorem dX18_falling_17 : decode cX18_falling 17 = .ok (.ireturn, 1) := dk_172 (dk_at dksX18_falling_0 17 rfl rfl)
theorem q107 : (Jvm.Cond.initialized "NoFartherThanAThrow$Round") ∈ lw_all := lw_g (lw_at lw_m1 29 rfl) rfl
theorem q620 : (Jvm.Cond.selects "NoFartherThanAThrow$Round" ({ cls := "NoFartherThanAThrow$Heavy", name := "more", desc := "()I" } : Jvm.MethodName) ({ cls := "NoFartherThanAThrow$Heavy", name := "more", desc := "()I" } : Jvm.MethodName)) ∈ lw_all := lw_g (lw_at lw_m3 62 rfl) rfl
theorem q646 : (Jvm.Cond.selects "NoFartherThanAThrow$Round" ({ cls := "NoFartherThanAThrow$Thing", name := "can", desc := "(I)I" } : Jvm.MethodName) ({ cls := "NoFartherThanAThrow$Thing", name := "can", desc := "(I)I" } : Jvm.MethodName)) ∈ lw_all := lw_g (lw_at lw_m3 88 rfl) rfl
theorem q667 : (Jvm.Cond.selects "NoFartherThanAThrow$Round" ({ cls := "NoFartherThanAThrow$Thing", name := "counts", desc := "()I" } : Jvm.MethodName) ({ cls := "NoFartherThanAThrow$Thing", name := "counts", desc := "()I" } : Jvm.MethodName)) ∈ lw_all := lw_g (lw_at lw_m3 109 rfl) rfl
theorem q686 : (Jvm.Cond.sameMethod "NoFartherThanAThrow$Round" "NoFartherThanAThrow$Heavy" "more" "()I") ∈ lw_all := lw_g (lw_at lw_m3 128 rfl) rfl
theorem q687 : (Jvm.Cond.selects "NoFartherThanAThrow$Round" ({ cls := "NoFartherThanAThrow$Round", name := "more", desc := "()I" } : Jvm.MethodName) ({ cls := "NoFartherThanAThrow$Heavy", name := "more", desc := "()I" } : Jvm.MethodName)) ∈ lw_all := lw_g (lw_at lw_m3 129 rfl) rfl
theorem q697 : (Jvm.Cond.selects "NoFartherThanAThrow$Round" ({ cls := "NoFartherThanAThrow$Thing", name := "said", desc := "()I" } : Jvm.MethodName) ({ cls := "NoFartherThanAThrow$Thing", name := "said", desc := "()I" } : Jvm.MethodName)) ∈ lw_all := lw_g (lw_at lw_m3 139 rfl) rfl
theorem q737 : (Jvm.Cond.fieldLink "NoFartherThanAThrow$Round" (32 : Nat) "NoFartherThanAThrow$Round" "index" "I") ∈ lw_all := lw_g (lw_at lw_m3 179 rfl) rfl
theorem q738 : (Jvm.Cond.sameField "NoFartherThanAThrow$Round" "NoFartherThanAThrow$Thing" "index" "I") ∈ lw_all := lw_g (lw_at lw_m3 180 rfl) rfl
theorem q750 : (Jvm.Cond.fieldLink "NoFartherThanAThrow$Round" (13 : Nat) "NoFartherThanAThrow$Round" "extra" "I") ∈ lw_all := lw_g (lw_at lw_m3 192 rfl) rfl
theorem q751 : (Jvm.Cond.sameField "NoFartherThanAThrow$Round" "NoFartherThanAThrow$Thing" "extra" "I") ∈ lw_all := lw_g (lw_at lw_m3 193 rfl) rfl
theorem q799 : (Jvm.Cond.instantiable "NoFartherThanAThrow$Round" (3 : Nat)) ∈ lw_all := lw_g (lw_at lw_m4 1 rfl) rfl
theorem q801 : (Jvm.Cond.instanceMethod ({ cls := "NoFartherThanAThrow$Round", name := "<init>", desc := "(III)V" } : Jvm.MethodName)) ∈ lw_all := lw_g (lw_at lw_m4 3 rfl) rfl
theorem q802 : (Jvm.Cond.code ({ cls := "NoFartherThanAThrow$Round", name := "<init>", desc := "(III)V" } : Jvm.MethodName) prog_13_method_1_code (4 : Nat) (Option.none : Option Jvm.ClassFile.FieldType)) ∈ lw_all := lw_g (lw_at lw_m4 4 rfl) rfl
theorem q803 : (Jvm.Cond.methodLink "NoFartherThanAThrow$Round" (3 : Nat) ({ cls := "NoFartherThanAThrow$Heavy", name := "<init>", desc := "(III)V" } : Jvm.MethodName)) ∈ lw_all := lw_g (lw_at lw_m4 5 rfl) rfl
theorem q804 : (Jvm.Cond.laysFinal "NoFartherThanAThrow$Round" "NoFartherThanAThrow$Thing" "index" "I") ∈ lw_all := lw_g (lw_at lw_m4 6 rfl) rfl
theorem q805 : (Jvm.Cond.laysFinal "NoFartherThanAThrow$Round" "NoFartherThanAThrow$Thing" "weight" "I") ∈ lw_all := lw_g (lw_at lw_m4 7 rfl) rfl
theorem q806 : (Jvm.Cond.laysFinal "NoFartherThanAThrow$Round" "NoFartherThanAThrow$Thing" "extra" "I") ∈ lw_all := lw_g (lw_at lw_m4 8 rfl) rfl
theorem q807 : (Jvm.Cond.superclass "NoFartherThanAThrow$Round" "NoFartherThanAThrow$Heavy") ∈ lw_all := lw_g (lw_at lw_m4 9 rfl) rfl
theorem q907 : (Jvm.Cond.selects "NoFartherThanAThrow$Round" ({ cls := "NoFartherThanAThrow$Thing", name := "kind", desc := "()I" } : Jvm.MethodName) ({ cls := "NoFartherThanAThrow$Round", name := "kind", desc := "()I" } : Jvm.MethodName)) ∈ lw_all := lw_g (lw_at lw_m4 109 rfl) rfl
theorem q908 : (Jvm.Cond.instanceMethod ({ cls := "NoFartherThanAThrow$Round", name := "kind", desc := "()I" } : Jvm.MethodName)) ∈ lw_all := lw_g (lw_at lw_m4 110 rfl) rfl
theorem q909 : (Jvm.Cond.code ({ cls := "NoFartherThanAThrow$Round", name := "kind", desc := "()I" } : Jvm.MethodName) prog_13_method_2_code (1 : Nat) (Option.some Jvm.ClassFile.FieldType.int)) ∈ lw_all := lw_g (lw_at lw_m4 111 rfl) rfl
theorem q1106 : (Jvm.Cond.selects "NoFartherThanAThrow$Round" ({ cls := "NoFartherThanAThrow$Heavy", name := "can", desc := "(I)I" } : Jvm.MethodName) ({ cls := "NoFartherThanAThrow$Thing", name := "can", desc := "(I)I" } : Jvm.MethodName)) ∈ lw_all := lw_g (lw_at lw_m5 68 rfl) rfl
theorem q1108 : (Jvm.Cond.instanceMethod ({ cls := "NoFartherThanAThrow$Round", name := "far", desc := "(II)I" } : Jvm.MethodName)) ∈ lw_all := lw_g (lw_at lw_m5 70 rfl) rfl
theorem q1109 : (Jvm.Cond.code ({ cls := "NoFartherThanAThrow$Round", name := "far", desc := "(II)I" } : Jvm.MethodName) prog_13_method_3_code (3 : Nat) (Option.some Jvm.ClassFile.FieldType.int)) ∈ lw_all := lw_g (lw_at lw_m5 71 rfl) rfl
theorem q1110 : (Jvm.Cond.methodLink "NoFartherThanAThrow$Round" (9 : Nat) ({ cls := "NoFartherThanAThrow$Heavy", name := "far", desc := "(II)I" } : Jvm.MethodName)) ∈ lw_all := lw_g (lw_at lw_m5 72 rfl) rfl
theorem q1283 : (Jvm.Cond.selects "NoFartherThanAThrow$Round" ({ cls := "NoFartherThanAThrow$Thing", name := "breaks", desc := "()Z" } : Jvm.MethodName) ({ cls := "NoFartherThanAThrow$Thing", name := "breaks", desc := "()Z" } : Jvm.MethodName)) ∈ lw_all := lw_g (lw_at lw_m6 5 rfl) rfl
theorem q1328 : (Jvm.Cond.selects "NoFartherThanAThrow$Round" ({ cls := "NoFartherThanAThrow$Thing", name := "going", desc := "(ILNoFartherThanAThrow$Trace;)I" } : Jvm.MethodName) ({ cls := "NoFartherThanAThrow$Round", name := "going", desc := "(ILNoFartherThanAThrow$Trace;)I" } : Jvm.MethodName)) ∈ lw_all := lw_g (lw_at lw_m6 50 rfl) rfl
theorem q1329 : (Jvm.Cond.instanceMethod ({ cls := "NoFartherThanAThrow$Round", name := "going", desc := "(ILNoFartherThanAThrow$Trace;)I" } : Jvm.MethodName)) ∈ lw_all := lw_g (lw_at lw_m6 51 rfl) rfl
theorem q1330 : (Jvm.Cond.code ({ cls := "NoFartherThanAThrow$Round", name := "going", desc := "(ILNoFartherThanAThrow$Trace;)I" } : Jvm.MethodName) prog_13_method_4_code (3 : Nat) (Option.some Jvm.ClassFile.FieldType.int)) ∈ lw_all := lw_g (lw_at lw_m6 52 rfl) rfl
theorem q1331 : (Jvm.Cond.methodLink "NoFartherThanAThrow$Round" (19 : Nat) ({ cls := "NoFartherThanAThrow$Trace", name := "runs", desc := "(I)V" } : Jvm.MethodName)) ∈ lw_all := lw_g (lw_at lw_m6 53 rfl) rfl
theorem q1332 : (Jvm.Cond.methodLink "NoFartherThanAThrow$Round" (25 : Nat) ({ cls := "NoFartherThanAThrow$Heavy", name := "going", desc := "(ILNoFartherThanAThrow$Trace;)I" } : Jvm.MethodName)) ∈ lw_all := lw_g (lw_at lw_m6 54 rfl) rfl
theorem q1358 : (Jvm.Cond.selects "NoFartherThanAThrow$Round" ({ cls := "NoFartherThanAThrow$Thing", name := "resting", desc := "(ILNoFartherThanAThrow$Trace;)I" } : Jvm.MethodName) ({ cls := "NoFartherThanAThrow$Thing", name := "resting", desc := "(ILNoFartherThanAThrow$Trace;)I" } : Jvm.MethodName)) ∈ lw_all := lw_g (lw_at lw_m6 80 rfl) rfl
theorem q1373 : (Jvm.Cond.selects "NoFartherThanAThrow$Round" ({ cls := "NoFartherThanAThrow$Thing", name := "falling", desc := "(ILNoFartherThanAThrow$Trace;)I" } : Jvm.MethodName) ({ cls := "NoFartherThanAThrow$Round", name := "falling", desc := "(ILNoFartherThanAThrow$Trace;)I" } : Jvm.MethodName)) ∈ lw_all := lw_g (lw_at lw_m6 95 rfl) rfl
theorem q1374 : (Jvm.Cond.instanceMethod ({ cls := "NoFartherThanAThrow$Round", name := "falling", desc := "(ILNoFartherThanAThrow$Trace;)I" } : Jvm.MethodName)) ∈ lw_all := lw_g (lw_at lw_m6 96 rfl) rfl
theorem q1375 : (Jvm.Cond.code ({ cls := "NoFartherThanAThrow$Round", name := "falling", desc := "(ILNoFartherThanAThrow$Trace;)I" } : Jvm.MethodName) prog_13_method_5_code (3 : Nat) (Option.some Jvm.ClassFile.FieldType.int)) ∈ lw_all := lw_g (lw_at lw_m6 97 rfl) rfl
theorem q1376 : (Jvm.Cond.methodLink "NoFartherThanAThrow$Round" (29 : Nat) ({ cls := "NoFartherThanAThrow$Heavy", name := "falling", desc := "(ILNoFartherThanAThrow$Trace;)I" } : Jvm.MethodName)) ∈ lw_all := lw_g (lw_at lw_m6 98 rfl) rfl
theorem q1939 : (Jvm.Cond.selects "NoFartherThanAThrow$Round" ({ cls := "NoFartherThanAThrow$Thing", name := "far", desc := "(II)I" } : Jvm.MethodName) ({ cls := "NoFartherThanAThrow$Round", name := "far", desc := "(II)I" } : Jvm.MethodName)) ∈ lw_all := lw_g (lw_at lw_m8 181 rfl) rfl
theorem q1954 : (Jvm.Cond.castable "NoFartherThanAThrow$Round" "NoFartherThanAThrow$Thing") ∈ lw_tbl := lw_at lw_m8 196 rfl
theorem q1956 : (Jvm.Cond.castable "NoFartherThanAThrow$Round" "NoFartherThanAThrow$Heavy") ∈ lw_tbl := lw_at lw_m8 198 rfl
theorem in_X18 : ∀ w ∈ wsX180, w ∈ lw_all := lw_in wsX180 [804, 805, 806] (by decide +kernel) (by decide +kernel)
/-! NoFartherThanAThrow$Reader -/
set_option maxRecDepth 100000
def RX19 : String := "NoFartherThanAThrow$Reader"
def TX19 : u_T := fun k => match k with
  | 0 => ("NoFartherThanAThrow$Reader", "text", "LNoFartherThanAThrow$Row;", true)
  | 1 => ("NoFartherThanAThrow$Reader", "w", "LNoFartherThanAThrow$World;", true)
  | _ => ("NoFartherThanAThrow$Reader", "at", "I", false)
def tyX19 : Nat → FieldType := fun k => match k with
  | 0 => .object "NoFartherThanAThrow$Row"
  | 1 => .object "NoFartherThanAThrow$World"
  | _ => .int
abbrev wsX190 : List Cond := u_ws RX19 TX19 3
theorem nmX19 : ∀ a, a < 3 → ∀ b, b < 3 → a ≠ b → (TX19 a).2.1 ≠ (TX19 b).2.1 := by decide +kernel
theorem tyX19_ok : ∀ k, k < 3 → parseFieldDescriptor (TX19 k).2.2.1 = some (tyX19 k) := by decide +kernel
abbrev cX19_init : ByteArray := prog_11_method_1_code
def yX19_init : MethodName := ⟨RX19, "<init>", "(LNoFartherThanAThrow$Row;LNoFartherThanAThrow$World;)V"⟩
def dkwX19_init_0 : List UInt8 := [42, 183, 0, 3, 42, 43, 181, 0, 9, 42, 44, 181, 0, 15, 177]
abbrev dktX19_init_0 : List UInt8 := dkwX19_init_0 ++ []
theorem dksX19_init_0 : cX19_init.data.toList.drop 0 = dktX19_init_0 := by decide +kernel
theorem dX19_init_0 : decode cX19_init 0 = .ok (.aload_n 0, 1) := dk_42 (dk_at dksX19_init_0 0 rfl rfl)
theorem dX19_init_1 : decode cX19_init 1 = .ok (.invokespecial 3, 3) := dk_183 0 3 (dk_at dksX19_init_0 1 rfl rfl)
theorem dX19_init_4 : decode cX19_init 4 = .ok (.aload_n 0, 1) := dk_42 (dk_at dksX19_init_0 4 rfl rfl)
theorem dX19_init_5 : decode cX19_init 5 = .ok (.aload_n 1, 1) := dk_43 (dk_at dksX19_init_0 5 rfl rfl)
theorem dX19_init_6 : decode cX19_init 6 = .ok (.putfield 9, 3) := dk_181 0 9 (dk_at dksX19_init_0 6 rfl rfl)
theorem dX19_init_9 : decode cX19_init 9 = .ok (.aload_n 0, 1) := dk_42 (dk_at dksX19_init_0 9 rfl rfl)
theorem dX19_init_10 : decode cX19_init 10 = .ok (.aload_n 2, 1) := dk_44 (dk_at dksX19_init_0 10 rfl rfl)
theorem dX19_init_11 : decode cX19_init 11 = .ok (.putfield 15, 3) := dk_181 0 15 (dk_at dksX19_init_0 11 rfl rfl)
theorem dX19_init_14 : decode cX19_init 14 = .ok (.return_, 1) := dk_177 (dk_at dksX19_init_0 14 rfl rfl)
abbrev cX19_items : ByteArray := prog_11_method_10_code
def yX19_items : MethodName := ⟨RX19, "items", "()I"⟩
def dkwX19_items_1 : List UInt8 := [132, 1, 1, 167, 255, 236, 27, 172]
abbrev dktX19_items_1 : List UInt8 := dkwX19_items_1 ++ []
def dkwX19_items_0 : List UInt8 := [4, 60, 42, 182, 0, 79, 42, 182, 0, 29, 154, 0, 19, 42, 16, 59, 182, 0, 53, 42, 182, 0, 79]
abbrev dktX19_items_0 : List UInt8 := dkwX19_items_0 ++ dktX19_items_1
theorem dksX19_items_0 : cX19_items.data.toList.drop 0 = dktX19_items_0 := by decide +kernel
theorem dksX19_items_1 : cX19_items.data.toList.drop 23 = dktX19_items_1 := dk_seg dksX19_items_0 23 rfl rfl
theorem dX19_items_0 : decode cX19_items 0 = .ok (.iconst 1, 1) := dk_4 (dk_at dksX19_items_0 0 rfl rfl)
theorem dX19_items_1 : decode cX19_items 1 = .ok (.istore_n 1, 1) := dk_60 (dk_at dksX19_items_0 1 rfl rfl)
theorem dX19_items_2 : decode cX19_items 2 = .ok (.aload_n 0, 1) := dk_42 (dk_at dksX19_items_0 2 rfl rfl)
theorem dX19_items_3 : decode cX19_items 3 = .ok (.invokevirtual 79, 3) := dk_182 0 79 (dk_at dksX19_items_0 3 rfl rfl)
theorem dX19_items_6 : decode cX19_items 6 = .ok (.aload_n 0, 1) := dk_42 (dk_at dksX19_items_0 6 rfl rfl)
theorem dX19_items_7 : decode cX19_items 7 = .ok (.invokevirtual 29, 3) := dk_182 0 29 (dk_at dksX19_items_0 7 rfl rfl)
theorem dX19_items_10 : decode cX19_items 10 = .ok (.ifCond .ne 19, 3) := dk_154 0 19 (dk_at dksX19_items_0 10 rfl rfl)
theorem dX19_items_13 : decode cX19_items 13 = .ok (.aload_n 0, 1) := dk_42 (dk_at dksX19_items_0 13 rfl rfl)
theorem dX19_items_14 : decode cX19_items 14 = .ok (.bipush 59, 2) := dk_16 59 (dk_at dksX19_items_0 14 rfl rfl)
theorem dX19_items_16 : decode cX19_items 16 = .ok (.invokevirtual 53, 3) := dk_182 0 53 (dk_at dksX19_items_0 16 rfl rfl)
theorem dX19_items_19 : decode cX19_items 19 = .ok (.aload_n 0, 1) := dk_42 (dk_at dksX19_items_0 19 rfl rfl)
theorem dX19_items_20 : decode cX19_items 20 = .ok (.invokevirtual 79, 3) := dk_182 0 79 (dk_at dksX19_items_0 20 rfl rfl)
theorem dX19_items_23 : decode cX19_items 23 = .ok (.iinc 1 1, 3) := dk_132 1 1 (dk_at dksX19_items_1 0 rfl rfl)
theorem dX19_items_26 : decode cX19_items 26 = .ok (.goto (-20), 3) := dk_167 255 236 (dk_at dksX19_items_1 3 rfl rfl)
theorem dX19_items_29 : decode cX19_items 29 = .ok (.iload_n 1, 1) := dk_27 (dk_at dksX19_items_1 6 rfl rfl)
theorem dX19_items_30 : decode cX19_items 30 = .ok (.ireturn, 1) := dk_172 (dk_at dksX19_items_1 7 rfl rfl)
abbrev cX19_item : ByteArray := prog_11_method_11_code
def yX19_item : MethodName := ⟨RX19, "item", "()V"⟩
def dkwX19_item_11 : List UInt8 := [180, 0, 15, 21, 4, 181, 0, 128, 177]
abbrev dktX19_item_11 : List UInt8 := dkwX19_item_11 ++ []
def dkwX19_item_10 : List UInt8 := [42, 180, 0, 15, 28, 21, 4, 182, 0, 121, 29, 182, 0, 63, 42, 180, 0, 15, 28, 181, 0, 125, 42]
abbrev dktX19_item_10 : List UInt8 := dkwX19_item_10 ++ dktX19_item_11
def dkwX19_item_9 : List UInt8 := [3, 16, 99, 182, 0, 72, 61, 42, 180, 0, 19, 4, 96, 62, 42, 3, 16, 99, 182, 0, 72, 54, 4, 42]
abbrev dktX19_item_9 : List UInt8 := dkwX19_item_9 ++ dktX19_item_10
def dkwX19_item_8 : List UInt8 := [182, 0, 111, 184, 0, 114, 16, 99, 182, 0, 72, 181, 0, 67, 167, 0, 65, 42, 18, 119, 182, 0, 84, 42]
abbrev dktX19_item_8 : List UInt8 := dkwX19_item_8 ++ dktX19_item_9
def dkwX19_item_7 : List UInt8 := [182, 0, 37, 153, 0, 36, 42, 18, 109, 182, 0, 84, 42, 180, 0, 15, 42, 4, 42, 180, 0, 15]
abbrev dktX19_item_7 : List UInt8 := dkwX19_item_7 ++ dktX19_item_8
def dkwX19_item_6 : List UInt8 := [167, 0, 124, 42, 16, 119, 182, 0, 37, 153, 0, 11, 42, 27, 182, 0, 106, 167, 0, 107, 42, 16, 108]
abbrev dktX19_item_6 : List UInt8 := dkwX19_item_6 ++ dktX19_item_7
def dkwX19_item_5 : List UInt8 := [167, 0, 4, 3, 27, 182, 0, 63, 42, 180, 0, 15, 42, 4, 16, 99, 182, 0, 72, 182, 0, 103]
abbrev dktX19_item_5 : List UInt8 := dkwX19_item_5 ++ dktX19_item_6
def dkwX19_item_4 : List UInt8 := [153, 0, 48, 42, 18, 98, 182, 0, 84, 42, 42, 180, 0, 15, 180, 0, 100, 16, 8, 162, 0, 7, 4]
abbrev dktX19_item_4 : List UInt8 := dkwX19_item_4 ++ dktX19_item_5
def dkwX19_item_3 : List UInt8 := [180, 0, 15, 28, 29, 21, 4, 42, 182, 0, 91, 2, 182, 0, 94, 167, 0, 178, 42, 16, 109, 182, 0, 37]
abbrev dktX19_item_3 : List UInt8 := dkwX19_item_3 ++ dktX19_item_4
def dkwX19_item_2 : List UInt8 := [182, 0, 72, 61, 42, 4, 16, 99, 182, 0, 72, 62, 42, 4, 16, 9, 182, 0, 72, 54, 4, 42]
abbrev dktX19_item_2 : List UInt8 := dkwX19_item_2 ++ dktX19_item_3
def dkwX19_item_1 : List UInt8 := [180, 0, 15, 180, 0, 88, 16, 8, 162, 0, 7, 4, 167, 0, 4, 3, 27, 182, 0, 63, 42, 3, 16, 6]
abbrev dktX19_item_1 : List UInt8 := dkwX19_item_1 ++ dktX19_item_2
def dkwX19_item_0 : List UInt8 := [42, 180, 0, 19, 60, 42, 16, 116, 182, 0, 37, 153, 0, 75, 42, 18, 82, 182, 0, 84, 42, 42]
abbrev dktX19_item_0 : List UInt8 := dkwX19_item_0 ++ dktX19_item_1
theorem dksX19_item_0 : cX19_item.data.toList.drop 0 = dktX19_item_0 := by decide +kernel
theorem dksX19_item_1 : cX19_item.data.toList.drop 22 = dktX19_item_1 := dk_seg dksX19_item_0 22 rfl rfl
theorem dksX19_item_2 : cX19_item.data.toList.drop 46 = dktX19_item_2 := dk_seg dksX19_item_1 24 rfl rfl
theorem dksX19_item_3 : cX19_item.data.toList.drop 68 = dktX19_item_3 := dk_seg dksX19_item_2 22 rfl rfl
theorem dksX19_item_4 : cX19_item.data.toList.drop 92 = dktX19_item_4 := dk_seg dksX19_item_3 24 rfl rfl
theorem dksX19_item_5 : cX19_item.data.toList.drop 115 = dktX19_item_5 := dk_seg dksX19_item_4 23 rfl rfl
theorem dksX19_item_6 : cX19_item.data.toList.drop 137 = dktX19_item_6 := dk_seg dksX19_item_5 22 rfl rfl
theorem dksX19_item_7 : cX19_item.data.toList.drop 160 = dktX19_item_7 := dk_seg dksX19_item_6 23 rfl rfl
theorem dksX19_item_8 : cX19_item.data.toList.drop 182 = dktX19_item_8 := dk_seg dksX19_item_7 22 rfl rfl
theorem dksX19_item_9 : cX19_item.data.toList.drop 206 = dktX19_item_9 := dk_seg dksX19_item_8 24 rfl rfl
theorem dksX19_item_10 : cX19_item.data.toList.drop 230 = dktX19_item_10 := dk_seg dksX19_item_9 24 rfl rfl
theorem dksX19_item_11 : cX19_item.data.toList.drop 253 = dktX19_item_11 := dk_seg dksX19_item_10 23 rfl rfl
theorem dX19_item_0 : decode cX19_item 0 = .ok (.aload_n 0, 1) := dk_42 (dk_at dksX19_item_0 0 rfl rfl)
theorem dX19_item_1 : decode cX19_item 1 = .ok (.getfield 19, 3) := dk_180 0 19 (dk_at dksX19_item_0 1 rfl rfl)
theorem dX19_item_4 : decode cX19_item 4 = .ok (.istore_n 1, 1) := dk_60 (dk_at dksX19_item_0 4 rfl rfl)
theorem dX19_item_5 : decode cX19_item 5 = .ok (.aload_n 0, 1) := dk_42 (dk_at dksX19_item_0 5 rfl rfl)
theorem dX19_item_6 : decode cX19_item 6 = .ok (.bipush 116, 2) := dk_16 116 (dk_at dksX19_item_0 6 rfl rfl)
theorem dX19_item_8 : decode cX19_item 8 = .ok (.invokevirtual 37, 3) := dk_182 0 37 (dk_at dksX19_item_0 8 rfl rfl)
theorem dX19_item_11 : decode cX19_item 11 = .ok (.ifCond .eq 75, 3) := dk_153 0 75 (dk_at dksX19_item_0 11 rfl rfl)
theorem dX19_item_14 : decode cX19_item 14 = .ok (.aload_n 0, 1) := dk_42 (dk_at dksX19_item_0 14 rfl rfl)
theorem dX19_item_15 : decode cX19_item 15 = .ok (.ldc 82, 2) := dk_18 82 (dk_at dksX19_item_0 15 rfl rfl)
theorem dX19_item_17 : decode cX19_item 17 = .ok (.invokevirtual 84, 3) := dk_182 0 84 (dk_at dksX19_item_0 17 rfl rfl)
theorem dX19_item_20 : decode cX19_item 20 = .ok (.aload_n 0, 1) := dk_42 (dk_at dksX19_item_0 20 rfl rfl)
theorem dX19_item_21 : decode cX19_item 21 = .ok (.aload_n 0, 1) := dk_42 (dk_at dksX19_item_0 21 rfl rfl)
theorem dX19_item_22 : decode cX19_item 22 = .ok (.getfield 15, 3) := dk_180 0 15 (dk_at dksX19_item_1 0 rfl rfl)
theorem dX19_item_25 : decode cX19_item 25 = .ok (.getfield 88, 3) := dk_180 0 88 (dk_at dksX19_item_1 3 rfl rfl)
theorem dX19_item_28 : decode cX19_item 28 = .ok (.bipush 8, 2) := dk_16 8 (dk_at dksX19_item_1 6 rfl rfl)
theorem dX19_item_30 : decode cX19_item 30 = .ok (.if_icmp .ge 7, 3) := dk_162 0 7 (dk_at dksX19_item_1 8 rfl rfl)
theorem dX19_item_33 : decode cX19_item 33 = .ok (.iconst 1, 1) := dk_4 (dk_at dksX19_item_1 11 rfl rfl)
theorem dX19_item_34 : decode cX19_item 34 = .ok (.goto 4, 3) := dk_167 0 4 (dk_at dksX19_item_1 12 rfl rfl)
theorem dX19_item_37 : decode cX19_item 37 = .ok (.iconst 0, 1) := dk_3 (dk_at dksX19_item_1 15 rfl rfl)
theorem dX19_item_38 : decode cX19_item 38 = .ok (.iload_n 1, 1) := dk_27 (dk_at dksX19_item_1 16 rfl rfl)
theorem dX19_item_39 : decode cX19_item 39 = .ok (.invokevirtual 63, 3) := dk_182 0 63 (dk_at dksX19_item_1 17 rfl rfl)
theorem dX19_item_42 : decode cX19_item 42 = .ok (.aload_n 0, 1) := dk_42 (dk_at dksX19_item_1 20 rfl rfl)
theorem dX19_item_43 : decode cX19_item 43 = .ok (.iconst 0, 1) := dk_3 (dk_at dksX19_item_1 21 rfl rfl)
theorem dX19_item_44 : decode cX19_item 44 = .ok (.bipush 6, 2) := dk_16 6 (dk_at dksX19_item_1 22 rfl rfl)
theorem dX19_item_46 : decode cX19_item 46 = .ok (.invokevirtual 72, 3) := dk_182 0 72 (dk_at dksX19_item_2 0 rfl rfl)
theorem dX19_item_49 : decode cX19_item 49 = .ok (.istore_n 2, 1) := dk_61 (dk_at dksX19_item_2 3 rfl rfl)
theorem dX19_item_50 : decode cX19_item 50 = .ok (.aload_n 0, 1) := dk_42 (dk_at dksX19_item_2 4 rfl rfl)
theorem dX19_item_51 : decode cX19_item 51 = .ok (.iconst 1, 1) := dk_4 (dk_at dksX19_item_2 5 rfl rfl)
theorem dX19_item_52 : decode cX19_item 52 = .ok (.bipush 99, 2) := dk_16 99 (dk_at dksX19_item_2 6 rfl rfl)
theorem dX19_item_54 : decode cX19_item 54 = .ok (.invokevirtual 72, 3) := dk_182 0 72 (dk_at dksX19_item_2 8 rfl rfl)
theorem dX19_item_57 : decode cX19_item 57 = .ok (.istore_n 3, 1) := dk_62 (dk_at dksX19_item_2 11 rfl rfl)
theorem dX19_item_58 : decode cX19_item 58 = .ok (.aload_n 0, 1) := dk_42 (dk_at dksX19_item_2 12 rfl rfl)
theorem dX19_item_59 : decode cX19_item 59 = .ok (.iconst 1, 1) := dk_4 (dk_at dksX19_item_2 13 rfl rfl)
theorem dX19_item_60 : decode cX19_item 60 = .ok (.bipush 9, 2) := dk_16 9 (dk_at dksX19_item_2 14 rfl rfl)
theorem dX19_item_62 : decode cX19_item 62 = .ok (.invokevirtual 72, 3) := dk_182 0 72 (dk_at dksX19_item_2 16 rfl rfl)
theorem dX19_item_65 : decode cX19_item 65 = .ok (.istore 4, 2) := dk_54 4 (dk_at dksX19_item_2 19 rfl rfl)
theorem dX19_item_67 : decode cX19_item 67 = .ok (.aload_n 0, 1) := dk_42 (dk_at dksX19_item_2 21 rfl rfl)
theorem dX19_item_68 : decode cX19_item 68 = .ok (.getfield 15, 3) := dk_180 0 15 (dk_at dksX19_item_3 0 rfl rfl)
theorem dX19_item_71 : decode cX19_item 71 = .ok (.iload_n 2, 1) := dk_28 (dk_at dksX19_item_3 3 rfl rfl)
theorem dX19_item_72 : decode cX19_item 72 = .ok (.iload_n 3, 1) := dk_29 (dk_at dksX19_item_3 4 rfl rfl)
theorem dX19_item_73 : decode cX19_item 73 = .ok (.iload 4, 2) := dk_21 4 (dk_at dksX19_item_3 5 rfl rfl)
theorem dX19_item_75 : decode cX19_item 75 = .ok (.aload_n 0, 1) := dk_42 (dk_at dksX19_item_3 7 rfl rfl)
theorem dX19_item_76 : decode cX19_item 76 = .ok (.invokevirtual 91, 3) := dk_182 0 91 (dk_at dksX19_item_3 8 rfl rfl)
theorem dX19_item_79 : decode cX19_item 79 = .ok (.iconst (-1), 1) := dk_2 (dk_at dksX19_item_3 11 rfl rfl)
theorem dX19_item_80 : decode cX19_item 80 = .ok (.invokevirtual 94, 3) := dk_182 0 94 (dk_at dksX19_item_3 12 rfl rfl)
theorem dX19_item_83 : decode cX19_item 83 = .ok (.goto 178, 3) := dk_167 0 178 (dk_at dksX19_item_3 15 rfl rfl)
theorem dX19_item_86 : decode cX19_item 86 = .ok (.aload_n 0, 1) := dk_42 (dk_at dksX19_item_3 18 rfl rfl)
theorem dX19_item_87 : decode cX19_item 87 = .ok (.bipush 109, 2) := dk_16 109 (dk_at dksX19_item_3 19 rfl rfl)
theorem dX19_item_89 : decode cX19_item 89 = .ok (.invokevirtual 37, 3) := dk_182 0 37 (dk_at dksX19_item_3 21 rfl rfl)
theorem dX19_item_92 : decode cX19_item 92 = .ok (.ifCond .eq 48, 3) := dk_153 0 48 (dk_at dksX19_item_4 0 rfl rfl)
theorem dX19_item_95 : decode cX19_item 95 = .ok (.aload_n 0, 1) := dk_42 (dk_at dksX19_item_4 3 rfl rfl)
theorem dX19_item_96 : decode cX19_item 96 = .ok (.ldc 98, 2) := dk_18 98 (dk_at dksX19_item_4 4 rfl rfl)
theorem dX19_item_98 : decode cX19_item 98 = .ok (.invokevirtual 84, 3) := dk_182 0 84 (dk_at dksX19_item_4 6 rfl rfl)
theorem dX19_item_101 : decode cX19_item 101 = .ok (.aload_n 0, 1) := dk_42 (dk_at dksX19_item_4 9 rfl rfl)
theorem dX19_item_102 : decode cX19_item 102 = .ok (.aload_n 0, 1) := dk_42 (dk_at dksX19_item_4 10 rfl rfl)
theorem dX19_item_103 : decode cX19_item 103 = .ok (.getfield 15, 3) := dk_180 0 15 (dk_at dksX19_item_4 11 rfl rfl)
theorem dX19_item_106 : decode cX19_item 106 = .ok (.getfield 100, 3) := dk_180 0 100 (dk_at dksX19_item_4 14 rfl rfl)
theorem dX19_item_109 : decode cX19_item 109 = .ok (.bipush 8, 2) := dk_16 8 (dk_at dksX19_item_4 17 rfl rfl)
theorem dX19_item_111 : decode cX19_item 111 = .ok (.if_icmp .ge 7, 3) := dk_162 0 7 (dk_at dksX19_item_4 19 rfl rfl)
theorem dX19_item_114 : decode cX19_item 114 = .ok (.iconst 1, 1) := dk_4 (dk_at dksX19_item_4 22 rfl rfl)
theorem dX19_item_115 : decode cX19_item 115 = .ok (.goto 4, 3) := dk_167 0 4 (dk_at dksX19_item_5 0 rfl rfl)
theorem dX19_item_118 : decode cX19_item 118 = .ok (.iconst 0, 1) := dk_3 (dk_at dksX19_item_5 3 rfl rfl)
theorem dX19_item_119 : decode cX19_item 119 = .ok (.iload_n 1, 1) := dk_27 (dk_at dksX19_item_5 4 rfl rfl)
theorem dX19_item_120 : decode cX19_item 120 = .ok (.invokevirtual 63, 3) := dk_182 0 63 (dk_at dksX19_item_5 5 rfl rfl)
theorem dX19_item_123 : decode cX19_item 123 = .ok (.aload_n 0, 1) := dk_42 (dk_at dksX19_item_5 8 rfl rfl)
theorem dX19_item_124 : decode cX19_item 124 = .ok (.getfield 15, 3) := dk_180 0 15 (dk_at dksX19_item_5 9 rfl rfl)
theorem dX19_item_127 : decode cX19_item 127 = .ok (.aload_n 0, 1) := dk_42 (dk_at dksX19_item_5 12 rfl rfl)
theorem dX19_item_128 : decode cX19_item 128 = .ok (.iconst 1, 1) := dk_4 (dk_at dksX19_item_5 13 rfl rfl)
theorem dX19_item_129 : decode cX19_item 129 = .ok (.bipush 99, 2) := dk_16 99 (dk_at dksX19_item_5 14 rfl rfl)
theorem dX19_item_131 : decode cX19_item 131 = .ok (.invokevirtual 72, 3) := dk_182 0 72 (dk_at dksX19_item_5 16 rfl rfl)
theorem dX19_item_134 : decode cX19_item 134 = .ok (.invokevirtual 103, 3) := dk_182 0 103 (dk_at dksX19_item_5 19 rfl rfl)
theorem dX19_item_137 : decode cX19_item 137 = .ok (.goto 124, 3) := dk_167 0 124 (dk_at dksX19_item_6 0 rfl rfl)
theorem dX19_item_140 : decode cX19_item 140 = .ok (.aload_n 0, 1) := dk_42 (dk_at dksX19_item_6 3 rfl rfl)
theorem dX19_item_141 : decode cX19_item 141 = .ok (.bipush 119, 2) := dk_16 119 (dk_at dksX19_item_6 4 rfl rfl)
theorem dX19_item_143 : decode cX19_item 143 = .ok (.invokevirtual 37, 3) := dk_182 0 37 (dk_at dksX19_item_6 6 rfl rfl)
theorem dX19_item_146 : decode cX19_item 146 = .ok (.ifCond .eq 11, 3) := dk_153 0 11 (dk_at dksX19_item_6 9 rfl rfl)
theorem dX19_item_149 : decode cX19_item 149 = .ok (.aload_n 0, 1) := dk_42 (dk_at dksX19_item_6 12 rfl rfl)
theorem dX19_item_150 : decode cX19_item 150 = .ok (.iload_n 1, 1) := dk_27 (dk_at dksX19_item_6 13 rfl rfl)
theorem dX19_item_151 : decode cX19_item 151 = .ok (.invokevirtual 106, 3) := dk_182 0 106 (dk_at dksX19_item_6 14 rfl rfl)
theorem dX19_item_154 : decode cX19_item 154 = .ok (.goto 107, 3) := dk_167 0 107 (dk_at dksX19_item_6 17 rfl rfl)
theorem dX19_item_157 : decode cX19_item 157 = .ok (.aload_n 0, 1) := dk_42 (dk_at dksX19_item_6 20 rfl rfl)
theorem dX19_item_158 : decode cX19_item 158 = .ok (.bipush 108, 2) := dk_16 108 (dk_at dksX19_item_6 21 rfl rfl)
theorem dX19_item_160 : decode cX19_item 160 = .ok (.invokevirtual 37, 3) := dk_182 0 37 (dk_at dksX19_item_7 0 rfl rfl)
theorem dX19_item_163 : decode cX19_item 163 = .ok (.ifCond .eq 36, 3) := dk_153 0 36 (dk_at dksX19_item_7 3 rfl rfl)
theorem dX19_item_166 : decode cX19_item 166 = .ok (.aload_n 0, 1) := dk_42 (dk_at dksX19_item_7 6 rfl rfl)
theorem dX19_item_167 : decode cX19_item 167 = .ok (.ldc 109, 2) := dk_18 109 (dk_at dksX19_item_7 7 rfl rfl)
theorem dX19_item_169 : decode cX19_item 169 = .ok (.invokevirtual 84, 3) := dk_182 0 84 (dk_at dksX19_item_7 9 rfl rfl)
theorem dX19_item_172 : decode cX19_item 172 = .ok (.aload_n 0, 1) := dk_42 (dk_at dksX19_item_7 12 rfl rfl)
theorem dX19_item_173 : decode cX19_item 173 = .ok (.getfield 15, 3) := dk_180 0 15 (dk_at dksX19_item_7 13 rfl rfl)
theorem dX19_item_176 : decode cX19_item 176 = .ok (.aload_n 0, 1) := dk_42 (dk_at dksX19_item_7 16 rfl rfl)
theorem dX19_item_177 : decode cX19_item 177 = .ok (.iconst 1, 1) := dk_4 (dk_at dksX19_item_7 17 rfl rfl)
theorem dX19_item_178 : decode cX19_item 178 = .ok (.aload_n 0, 1) := dk_42 (dk_at dksX19_item_7 18 rfl rfl)
theorem dX19_item_179 : decode cX19_item 179 = .ok (.getfield 15, 3) := dk_180 0 15 (dk_at dksX19_item_7 19 rfl rfl)
theorem dX19_item_182 : decode cX19_item 182 = .ok (.invokevirtual 111, 3) := dk_182 0 111 (dk_at dksX19_item_8 0 rfl rfl)
theorem dX19_item_185 : decode cX19_item 185 = .ok (.invokestatic 114, 3) := dk_184 0 114 (dk_at dksX19_item_8 3 rfl rfl)
theorem dX19_item_188 : decode cX19_item 188 = .ok (.bipush 99, 2) := dk_16 99 (dk_at dksX19_item_8 6 rfl rfl)
theorem dX19_item_190 : decode cX19_item 190 = .ok (.invokevirtual 72, 3) := dk_182 0 72 (dk_at dksX19_item_8 8 rfl rfl)
theorem dX19_item_193 : decode cX19_item 193 = .ok (.putfield 67, 3) := dk_181 0 67 (dk_at dksX19_item_8 11 rfl rfl)
theorem dX19_item_196 : decode cX19_item 196 = .ok (.goto 65, 3) := dk_167 0 65 (dk_at dksX19_item_8 14 rfl rfl)
theorem dX19_item_199 : decode cX19_item 199 = .ok (.aload_n 0, 1) := dk_42 (dk_at dksX19_item_8 17 rfl rfl)
theorem dX19_item_200 : decode cX19_item 200 = .ok (.ldc 119, 2) := dk_18 119 (dk_at dksX19_item_8 18 rfl rfl)
theorem dX19_item_202 : decode cX19_item 202 = .ok (.invokevirtual 84, 3) := dk_182 0 84 (dk_at dksX19_item_8 20 rfl rfl)
theorem dX19_item_205 : decode cX19_item 205 = .ok (.aload_n 0, 1) := dk_42 (dk_at dksX19_item_8 23 rfl rfl)
theorem dX19_item_206 : decode cX19_item 206 = .ok (.iconst 0, 1) := dk_3 (dk_at dksX19_item_9 0 rfl rfl)
theorem dX19_item_207 : decode cX19_item 207 = .ok (.bipush 99, 2) := dk_16 99 (dk_at dksX19_item_9 1 rfl rfl)
theorem dX19_item_209 : decode cX19_item 209 = .ok (.invokevirtual 72, 3) := dk_182 0 72 (dk_at dksX19_item_9 3 rfl rfl)
theorem dX19_item_212 : decode cX19_item 212 = .ok (.istore_n 2, 1) := dk_61 (dk_at dksX19_item_9 6 rfl rfl)
theorem dX19_item_213 : decode cX19_item 213 = .ok (.aload_n 0, 1) := dk_42 (dk_at dksX19_item_9 7 rfl rfl)
theorem dX19_item_214 : decode cX19_item 214 = .ok (.getfield 19, 3) := dk_180 0 19 (dk_at dksX19_item_9 8 rfl rfl)
theorem dX19_item_217 : decode cX19_item 217 = .ok (.iconst 1, 1) := dk_4 (dk_at dksX19_item_9 11 rfl rfl)
theorem dX19_item_218 : decode cX19_item 218 = .ok (.iadd, 1) := dk_96 (dk_at dksX19_item_9 12 rfl rfl)
theorem dX19_item_219 : decode cX19_item 219 = .ok (.istore_n 3, 1) := dk_62 (dk_at dksX19_item_9 13 rfl rfl)
theorem dX19_item_220 : decode cX19_item 220 = .ok (.aload_n 0, 1) := dk_42 (dk_at dksX19_item_9 14 rfl rfl)
theorem dX19_item_221 : decode cX19_item 221 = .ok (.iconst 0, 1) := dk_3 (dk_at dksX19_item_9 15 rfl rfl)
theorem dX19_item_222 : decode cX19_item 222 = .ok (.bipush 99, 2) := dk_16 99 (dk_at dksX19_item_9 16 rfl rfl)
theorem dX19_item_224 : decode cX19_item 224 = .ok (.invokevirtual 72, 3) := dk_182 0 72 (dk_at dksX19_item_9 18 rfl rfl)
theorem dX19_item_227 : decode cX19_item 227 = .ok (.istore 4, 2) := dk_54 4 (dk_at dksX19_item_9 21 rfl rfl)
theorem dX19_item_229 : decode cX19_item 229 = .ok (.aload_n 0, 1) := dk_42 (dk_at dksX19_item_9 23 rfl rfl)
theorem dX19_item_230 : decode cX19_item 230 = .ok (.aload_n 0, 1) := dk_42 (dk_at dksX19_item_10 0 rfl rfl)
theorem dX19_item_231 : decode cX19_item 231 = .ok (.getfield 15, 3) := dk_180 0 15 (dk_at dksX19_item_10 1 rfl rfl)
theorem dX19_item_234 : decode cX19_item 234 = .ok (.iload_n 2, 1) := dk_28 (dk_at dksX19_item_10 4 rfl rfl)
theorem dX19_item_235 : decode cX19_item 235 = .ok (.iload 4, 2) := dk_21 4 (dk_at dksX19_item_10 5 rfl rfl)
theorem dX19_item_237 : decode cX19_item 237 = .ok (.invokevirtual 121, 3) := dk_182 0 121 (dk_at dksX19_item_10 7 rfl rfl)
theorem dX19_item_240 : decode cX19_item 240 = .ok (.iload_n 3, 1) := dk_29 (dk_at dksX19_item_10 10 rfl rfl)
theorem dX19_item_241 : decode cX19_item 241 = .ok (.invokevirtual 63, 3) := dk_182 0 63 (dk_at dksX19_item_10 11 rfl rfl)
theorem dX19_item_244 : decode cX19_item 244 = .ok (.aload_n 0, 1) := dk_42 (dk_at dksX19_item_10 14 rfl rfl)
theorem dX19_item_245 : decode cX19_item 245 = .ok (.getfield 15, 3) := dk_180 0 15 (dk_at dksX19_item_10 15 rfl rfl)
theorem dX19_item_248 : decode cX19_item 248 = .ok (.iload_n 2, 1) := dk_28 (dk_at dksX19_item_10 18 rfl rfl)
theorem dX19_item_249 : decode cX19_item 249 = .ok (.putfield 125, 3) := dk_181 0 125 (dk_at dksX19_item_10 19 rfl rfl)
theorem dX19_item_252 : decode cX19_item 252 = .ok (.aload_n 0, 1) := dk_42 (dk_at dksX19_item_10 22 rfl rfl)
theorem dX19_item_253 : decode cX19_item 253 = .ok (.getfield 15, 3) := dk_180 0 15 (dk_at dksX19_item_11 0 rfl rfl)
theorem dX19_item_256 : decode cX19_item 256 = .ok (.iload 4, 2) := dk_21 4 (dk_at dksX19_item_11 3 rfl rfl)
theorem dX19_item_258 : decode cX19_item 258 = .ok (.putfield 128, 3) := dk_181 0 128 (dk_at dksX19_item_11 5 rfl rfl)
theorem dX19_item_261 : decode cX19_item 261 = .ok (.return_, 1) := dk_177 (dk_at dksX19_item_11 8 rfl rfl)
abbrev cX19_sees : ByteArray := prog_11_method_3_code
def yX19_sees : MethodName := ⟨RX19, "sees", "(I)Z"⟩
def dkwX19_sees_1 : List UInt8 := [167, 0, 4, 3, 172]
abbrev dktX19_sees_1 : List UInt8 := dkwX19_sees_1 ++ []
def dkwX19_sees_0 : List UInt8 := [42, 182, 0, 29, 154, 0, 22, 42, 180, 0, 9, 42, 180, 0, 19, 182, 0, 33, 27, 160, 0, 7, 4]
abbrev dktX19_sees_0 : List UInt8 := dkwX19_sees_0 ++ dktX19_sees_1
theorem dksX19_sees_0 : cX19_sees.data.toList.drop 0 = dktX19_sees_0 := by decide +kernel
theorem dksX19_sees_1 : cX19_sees.data.toList.drop 23 = dktX19_sees_1 := dk_seg dksX19_sees_0 23 rfl rfl
theorem dX19_sees_0 : decode cX19_sees 0 = .ok (.aload_n 0, 1) := dk_42 (dk_at dksX19_sees_0 0 rfl rfl)
theorem dX19_sees_1 : decode cX19_sees 1 = .ok (.invokevirtual 29, 3) := dk_182 0 29 (dk_at dksX19_sees_0 1 rfl rfl)
theorem dX19_sees_4 : decode cX19_sees 4 = .ok (.ifCond .ne 22, 3) := dk_154 0 22 (dk_at dksX19_sees_0 4 rfl rfl)
theorem dX19_sees_7 : decode cX19_sees 7 = .ok (.aload_n 0, 1) := dk_42 (dk_at dksX19_sees_0 7 rfl rfl)
theorem dX19_sees_8 : decode cX19_sees 8 = .ok (.getfield 9, 3) := dk_180 0 9 (dk_at dksX19_sees_0 8 rfl rfl)
theorem dX19_sees_11 : decode cX19_sees 11 = .ok (.aload_n 0, 1) := dk_42 (dk_at dksX19_sees_0 11 rfl rfl)
theorem dX19_sees_12 : decode cX19_sees 12 = .ok (.getfield 19, 3) := dk_180 0 19 (dk_at dksX19_sees_0 12 rfl rfl)
theorem dX19_sees_15 : decode cX19_sees 15 = .ok (.invokevirtual 33, 3) := dk_182 0 33 (dk_at dksX19_sees_0 15 rfl rfl)
theorem dX19_sees_18 : decode cX19_sees 18 = .ok (.iload_n 1, 1) := dk_27 (dk_at dksX19_sees_0 18 rfl rfl)
theorem dX19_sees_19 : decode cX19_sees 19 = .ok (.if_icmp .ne 7, 3) := dk_160 0 7 (dk_at dksX19_sees_0 19 rfl rfl)
theorem dX19_sees_22 : decode cX19_sees 22 = .ok (.iconst 1, 1) := dk_4 (dk_at dksX19_sees_0 22 rfl rfl)
theorem dX19_sees_23 : decode cX19_sees 23 = .ok (.goto 4, 3) := dk_167 0 4 (dk_at dksX19_sees_1 0 rfl rfl)
theorem dX19_sees_26 : decode cX19_sees 26 = .ok (.iconst 0, 1) := dk_3 (dk_at dksX19_sees_1 3 rfl rfl)
theorem dX19_sees_27 : decode cX19_sees 27 = .ok (.ireturn, 1) := dk_172 (dk_at dksX19_sees_1 4 rfl rfl)
abbrev cX19_ends : ByteArray := prog_11_method_2_code
def yX19_ends : MethodName := ⟨RX19, "ends", "()Z"⟩
def dkwX19_ends_0 : List UInt8 := [42, 180, 0, 19, 42, 180, 0, 9, 182, 0, 23, 160, 0, 7, 4, 167, 0, 4, 3, 172]
abbrev dktX19_ends_0 : List UInt8 := dkwX19_ends_0 ++ []
theorem dksX19_ends_0 : cX19_ends.data.toList.drop 0 = dktX19_ends_0 := by decide +kernel
theorem dX19_ends_0 : decode cX19_ends 0 = .ok (.aload_n 0, 1) := dk_42 (dk_at dksX19_ends_0 0 rfl rfl)
theorem dX19_ends_1 : decode cX19_ends 1 = .ok (.getfield 19, 3) := dk_180 0 19 (dk_at dksX19_ends_0 1 rfl rfl)
theorem dX19_ends_4 : decode cX19_ends 4 = .ok (.aload_n 0, 1) := dk_42 (dk_at dksX19_ends_0 4 rfl rfl)
theorem dX19_ends_5 : decode cX19_ends 5 = .ok (.getfield 9, 3) := dk_180 0 9 (dk_at dksX19_ends_0 5 rfl rfl)
theorem dX19_ends_8 : decode cX19_ends 8 = .ok (.invokevirtual 23, 3) := dk_182 0 23 (dk_at dksX19_ends_0 8 rfl rfl)
theorem dX19_ends_11 : decode cX19_ends 11 = .ok (.if_icmp .ne 7, 3) := dk_160 0 7 (dk_at dksX19_ends_0 11 rfl rfl)
theorem dX19_ends_14 : decode cX19_ends 14 = .ok (.iconst 1, 1) := dk_4 (dk_at dksX19_ends_0 14 rfl rfl)
theorem dX19_ends_15 : decode cX19_ends 15 = .ok (.goto 4, 3) := dk_167 0 4 (dk_at dksX19_ends_0 15 rfl rfl)
theorem dX19_ends_18 : decode cX19_ends 18 = .ok (.iconst 0, 1) := dk_3 (dk_at dksX19_ends_0 18 rfl rfl)
theorem dX19_ends_19 : decode cX19_ends 19 = .ok (.ireturn, 1) := dk_172 (dk_at dksX19_ends_0 19 rfl rfl)
abbrev cX19_word : ByteArray := prog_11_method_5_code
def yX19_word : MethodName := ⟨RX19, "word", "(Ljava/lang/String;)V"⟩
def dkwX19_word_1 : List UInt8 := [167, 255, 236, 177]
abbrev dktX19_word_1 : List UInt8 := dkwX19_word_1 ++ []
def dkwX19_word_0 : List UInt8 := [3, 61, 28, 43, 182, 0, 46, 162, 0, 18, 42, 43, 28, 182, 0, 49, 182, 0, 53, 132, 2, 1]
abbrev dktX19_word_0 : List UInt8 := dkwX19_word_0 ++ dktX19_word_1
theorem dksX19_word_0 : cX19_word.data.toList.drop 0 = dktX19_word_0 := by decide +kernel
theorem dksX19_word_1 : cX19_word.data.toList.drop 22 = dktX19_word_1 := dk_seg dksX19_word_0 22 rfl rfl
theorem dX19_word_0 : decode cX19_word 0 = .ok (.iconst 0, 1) := dk_3 (dk_at dksX19_word_0 0 rfl rfl)
theorem dX19_word_1 : decode cX19_word 1 = .ok (.istore_n 2, 1) := dk_61 (dk_at dksX19_word_0 1 rfl rfl)
theorem dX19_word_2 : decode cX19_word 2 = .ok (.iload_n 2, 1) := dk_28 (dk_at dksX19_word_0 2 rfl rfl)
theorem dX19_word_3 : decode cX19_word 3 = .ok (.aload_n 1, 1) := dk_43 (dk_at dksX19_word_0 3 rfl rfl)
theorem dX19_word_4 : decode cX19_word 4 = .ok (.invokevirtual 46, 3) := dk_182 0 46 (dk_at dksX19_word_0 4 rfl rfl)
theorem dX19_word_7 : decode cX19_word 7 = .ok (.if_icmp .ge 18, 3) := dk_162 0 18 (dk_at dksX19_word_0 7 rfl rfl)
theorem dX19_word_10 : decode cX19_word 10 = .ok (.aload_n 0, 1) := dk_42 (dk_at dksX19_word_0 10 rfl rfl)
theorem dX19_word_11 : decode cX19_word 11 = .ok (.aload_n 1, 1) := dk_43 (dk_at dksX19_word_0 11 rfl rfl)
theorem dX19_word_12 : decode cX19_word 12 = .ok (.iload_n 2, 1) := dk_28 (dk_at dksX19_word_0 12 rfl rfl)
theorem dX19_word_13 : decode cX19_word 13 = .ok (.invokevirtual 49, 3) := dk_182 0 49 (dk_at dksX19_word_0 13 rfl rfl)
theorem dX19_word_16 : decode cX19_word 16 = .ok (.invokevirtual 53, 3) := dk_182 0 53 (dk_at dksX19_word_0 16 rfl rfl)
theorem dX19_word_19 : decode cX19_word 19 = .ok (.iinc 2 1, 3) := dk_132 2 1 (dk_at dksX19_word_0 19 rfl rfl)
theorem dX19_word_22 : decode cX19_word 22 = .ok (.goto (-20), 3) := dk_167 255 236 (dk_at dksX19_word_1 0 rfl rfl)
theorem dX19_word_25 : decode cX19_word 25 = .ok (.return_, 1) := dk_177 (dk_at dksX19_word_1 3 rfl rfl)
abbrev cX19_must : ByteArray := prog_11_method_4_code
def yX19_must : MethodName := ⟨RX19, "must", "(I)V"⟩
def dkwX19_must_1 : List UInt8 := [180, 0, 19, 4, 96, 181, 0, 19, 177]
abbrev dktX19_must_1 : List UInt8 := dkwX19_must_1 ++ []
def dkwX19_must_0 : List UInt8 := [42, 27, 182, 0, 37, 154, 0, 15, 187, 0, 41, 89, 42, 180, 0, 19, 183, 0, 43, 191, 42, 89]
abbrev dktX19_must_0 : List UInt8 := dkwX19_must_0 ++ dktX19_must_1
theorem dksX19_must_0 : cX19_must.data.toList.drop 0 = dktX19_must_0 := by decide +kernel
theorem dksX19_must_1 : cX19_must.data.toList.drop 22 = dktX19_must_1 := dk_seg dksX19_must_0 22 rfl rfl
theorem dX19_must_0 : decode cX19_must 0 = .ok (.aload_n 0, 1) := dk_42 (dk_at dksX19_must_0 0 rfl rfl)
theorem dX19_must_1 : decode cX19_must 1 = .ok (.iload_n 1, 1) := dk_27 (dk_at dksX19_must_0 1 rfl rfl)
theorem dX19_must_2 : decode cX19_must 2 = .ok (.invokevirtual 37, 3) := dk_182 0 37 (dk_at dksX19_must_0 2 rfl rfl)
theorem dX19_must_5 : decode cX19_must 5 = .ok (.ifCond .ne 15, 3) := dk_154 0 15 (dk_at dksX19_must_0 5 rfl rfl)
theorem dX19_must_8 : decode cX19_must 8 = .ok (.new 41, 3) := dk_187 0 41 (dk_at dksX19_must_0 8 rfl rfl)
theorem dX19_must_11 : decode cX19_must 11 = .ok (.dup, 1) := dk_89 (dk_at dksX19_must_0 11 rfl rfl)
theorem dX19_must_12 : decode cX19_must 12 = .ok (.aload_n 0, 1) := dk_42 (dk_at dksX19_must_0 12 rfl rfl)
theorem dX19_must_13 : decode cX19_must 13 = .ok (.getfield 19, 3) := dk_180 0 19 (dk_at dksX19_must_0 13 rfl rfl)
theorem dX19_must_16 : decode cX19_must 16 = .ok (.invokespecial 43, 3) := dk_183 0 43 (dk_at dksX19_must_0 16 rfl rfl)
theorem dX19_must_19 : decode cX19_must 19 = .ok (.athrow, 1) := dk_191 (dk_at dksX19_must_0 19 rfl rfl)
theorem dX19_must_20 : decode cX19_must 20 = .ok (.aload_n 0, 1) := dk_42 (dk_at dksX19_must_0 20 rfl rfl)
theorem dX19_must_21 : decode cX19_must 21 = .ok (.dup, 1) := dk_89 (dk_at dksX19_must_0 21 rfl rfl)
theorem dX19_must_22 : decode cX19_must 22 = .ok (.getfield 19, 3) := dk_180 0 19 (dk_at dksX19_must_1 0 rfl rfl)
theorem dX19_must_25 : decode cX19_must 25 = .ok (.iconst 1, 1) := dk_4 (dk_at dksX19_must_1 3 rfl rfl)
theorem dX19_must_26 : decode cX19_must 26 = .ok (.iadd, 1) := dk_96 (dk_at dksX19_must_1 4 rfl rfl)
theorem dX19_must_27 : decode cX19_must 27 = .ok (.putfield 19, 3) := dk_181 0 19 (dk_at dksX19_must_1 5 rfl rfl)
theorem dX19_must_30 : decode cX19_must 30 = .ok (.return_, 1) := dk_177 (dk_at dksX19_must_1 8 rfl rfl)
abbrev cX19_hasRoom : ByteArray := prog_11_method_9_code
def yX19_hasRoom : MethodName := ⟨RX19, "hasRoom", "(ZI)V"⟩
def dkwX19_hasRoom_0 : List UInt8 := [27, 154, 0, 12, 187, 0, 41, 89, 28, 183, 0, 43, 191, 177]
abbrev dktX19_hasRoom_0 : List UInt8 := dkwX19_hasRoom_0 ++ []
theorem dksX19_hasRoom_0 : cX19_hasRoom.data.toList.drop 0 = dktX19_hasRoom_0 := by decide +kernel
theorem dX19_hasRoom_0 : decode cX19_hasRoom 0 = .ok (.iload_n 1, 1) := dk_27 (dk_at dksX19_hasRoom_0 0 rfl rfl)
theorem dX19_hasRoom_1 : decode cX19_hasRoom 1 = .ok (.ifCond .ne 12, 3) := dk_154 0 12 (dk_at dksX19_hasRoom_0 1 rfl rfl)
theorem dX19_hasRoom_4 : decode cX19_hasRoom 4 = .ok (.new 41, 3) := dk_187 0 41 (dk_at dksX19_hasRoom_0 4 rfl rfl)
theorem dX19_hasRoom_7 : decode cX19_hasRoom 7 = .ok (.dup, 1) := dk_89 (dk_at dksX19_hasRoom_0 7 rfl rfl)
theorem dX19_hasRoom_8 : decode cX19_hasRoom 8 = .ok (.iload_n 2, 1) := dk_28 (dk_at dksX19_hasRoom_0 8 rfl rfl)
theorem dX19_hasRoom_9 : decode cX19_hasRoom 9 = .ok (.invokespecial 43, 3) := dk_183 0 43 (dk_at dksX19_hasRoom_0 9 rfl rfl)
theorem dX19_hasRoom_12 : decode cX19_hasRoom 12 = .ok (.athrow, 1) := dk_191 (dk_at dksX19_hasRoom_0 12 rfl rfl)
theorem dX19_hasRoom_13 : decode cX19_hasRoom 13 = .ok (.return_, 1) := dk_177 (dk_at dksX19_hasRoom_0 13 rfl rfl)
abbrev cX19_number : ByteArray := prog_11_method_7_code
def yX19_number : MethodName := ⟨RX19, "number", "(II)I"⟩
def dkwX19_number_4 : List UInt8 := [27, 133, 28, 133, 184, 0, 59, 29, 182, 0, 63, 21, 4, 172]
abbrev dktX19_number_4 : List UInt8 := dkwX19_number_4 ++ []
def dkwX19_number_3 : List UInt8 := [42, 89, 180, 0, 19, 90, 4, 96, 181, 0, 19, 182, 0, 33, 96, 16, 48, 100, 54, 4, 42, 21, 4, 133]
abbrev dktX19_number_3 : List UInt8 := dkwX19_number_3 ++ dktX19_number_4
def dkwX19_number_2 : List UInt8 := [182, 0, 33, 16, 48, 100, 54, 4, 42, 182, 0, 56, 153, 0, 32, 16, 10, 21, 4, 104, 42, 180, 0, 9]
abbrev dktX19_number_2 : List UInt8 := dkwX19_number_2 ++ dktX19_number_3
def dkwX19_number_1 : List UInt8 := [180, 0, 19, 183, 0, 43, 191, 42, 180, 0, 9, 42, 89, 180, 0, 19, 90, 4, 96, 181, 0, 19]
abbrev dktX19_number_1 : List UInt8 := dkwX19_number_1 ++ dktX19_number_2
def dkwX19_number_0 : List UInt8 := [42, 16, 32, 182, 0, 53, 42, 180, 0, 19, 62, 42, 182, 0, 56, 154, 0, 15, 187, 0, 41, 89, 42]
abbrev dktX19_number_0 : List UInt8 := dkwX19_number_0 ++ dktX19_number_1
theorem dksX19_number_0 : cX19_number.data.toList.drop 0 = dktX19_number_0 := by decide +kernel
theorem dksX19_number_1 : cX19_number.data.toList.drop 23 = dktX19_number_1 := dk_seg dksX19_number_0 23 rfl rfl
theorem dksX19_number_2 : cX19_number.data.toList.drop 45 = dktX19_number_2 := dk_seg dksX19_number_1 22 rfl rfl
theorem dksX19_number_3 : cX19_number.data.toList.drop 69 = dktX19_number_3 := dk_seg dksX19_number_2 24 rfl rfl
theorem dksX19_number_4 : cX19_number.data.toList.drop 93 = dktX19_number_4 := dk_seg dksX19_number_3 24 rfl rfl
theorem dX19_number_0 : decode cX19_number 0 = .ok (.aload_n 0, 1) := dk_42 (dk_at dksX19_number_0 0 rfl rfl)
theorem dX19_number_1 : decode cX19_number 1 = .ok (.bipush 32, 2) := dk_16 32 (dk_at dksX19_number_0 1 rfl rfl)
theorem dX19_number_3 : decode cX19_number 3 = .ok (.invokevirtual 53, 3) := dk_182 0 53 (dk_at dksX19_number_0 3 rfl rfl)
theorem dX19_number_6 : decode cX19_number 6 = .ok (.aload_n 0, 1) := dk_42 (dk_at dksX19_number_0 6 rfl rfl)
theorem dX19_number_7 : decode cX19_number 7 = .ok (.getfield 19, 3) := dk_180 0 19 (dk_at dksX19_number_0 7 rfl rfl)
theorem dX19_number_10 : decode cX19_number 10 = .ok (.istore_n 3, 1) := dk_62 (dk_at dksX19_number_0 10 rfl rfl)
theorem dX19_number_11 : decode cX19_number 11 = .ok (.aload_n 0, 1) := dk_42 (dk_at dksX19_number_0 11 rfl rfl)
theorem dX19_number_12 : decode cX19_number 12 = .ok (.invokevirtual 56, 3) := dk_182 0 56 (dk_at dksX19_number_0 12 rfl rfl)
theorem dX19_number_15 : decode cX19_number 15 = .ok (.ifCond .ne 15, 3) := dk_154 0 15 (dk_at dksX19_number_0 15 rfl rfl)
theorem dX19_number_18 : decode cX19_number 18 = .ok (.new 41, 3) := dk_187 0 41 (dk_at dksX19_number_0 18 rfl rfl)
theorem dX19_number_21 : decode cX19_number 21 = .ok (.dup, 1) := dk_89 (dk_at dksX19_number_0 21 rfl rfl)
theorem dX19_number_22 : decode cX19_number 22 = .ok (.aload_n 0, 1) := dk_42 (dk_at dksX19_number_0 22 rfl rfl)
theorem dX19_number_23 : decode cX19_number 23 = .ok (.getfield 19, 3) := dk_180 0 19 (dk_at dksX19_number_1 0 rfl rfl)
theorem dX19_number_26 : decode cX19_number 26 = .ok (.invokespecial 43, 3) := dk_183 0 43 (dk_at dksX19_number_1 3 rfl rfl)
theorem dX19_number_29 : decode cX19_number 29 = .ok (.athrow, 1) := dk_191 (dk_at dksX19_number_1 6 rfl rfl)
theorem dX19_number_30 : decode cX19_number 30 = .ok (.aload_n 0, 1) := dk_42 (dk_at dksX19_number_1 7 rfl rfl)
theorem dX19_number_31 : decode cX19_number 31 = .ok (.getfield 9, 3) := dk_180 0 9 (dk_at dksX19_number_1 8 rfl rfl)
theorem dX19_number_34 : decode cX19_number 34 = .ok (.aload_n 0, 1) := dk_42 (dk_at dksX19_number_1 11 rfl rfl)
theorem dX19_number_35 : decode cX19_number 35 = .ok (.dup, 1) := dk_89 (dk_at dksX19_number_1 12 rfl rfl)
theorem dX19_number_36 : decode cX19_number 36 = .ok (.getfield 19, 3) := dk_180 0 19 (dk_at dksX19_number_1 13 rfl rfl)
theorem dX19_number_39 : decode cX19_number 39 = .ok (.dup_x1, 1) := dk_90 (dk_at dksX19_number_1 16 rfl rfl)
theorem dX19_number_40 : decode cX19_number 40 = .ok (.iconst 1, 1) := dk_4 (dk_at dksX19_number_1 17 rfl rfl)
theorem dX19_number_41 : decode cX19_number 41 = .ok (.iadd, 1) := dk_96 (dk_at dksX19_number_1 18 rfl rfl)
theorem dX19_number_42 : decode cX19_number 42 = .ok (.putfield 19, 3) := dk_181 0 19 (dk_at dksX19_number_1 19 rfl rfl)
theorem dX19_number_45 : decode cX19_number 45 = .ok (.invokevirtual 33, 3) := dk_182 0 33 (dk_at dksX19_number_2 0 rfl rfl)
theorem dX19_number_48 : decode cX19_number 48 = .ok (.bipush 48, 2) := dk_16 48 (dk_at dksX19_number_2 3 rfl rfl)
theorem dX19_number_50 : decode cX19_number 50 = .ok (.isub, 1) := dk_100 (dk_at dksX19_number_2 5 rfl rfl)
theorem dX19_number_51 : decode cX19_number 51 = .ok (.istore 4, 2) := dk_54 4 (dk_at dksX19_number_2 6 rfl rfl)
theorem dX19_number_53 : decode cX19_number 53 = .ok (.aload_n 0, 1) := dk_42 (dk_at dksX19_number_2 8 rfl rfl)
theorem dX19_number_54 : decode cX19_number 54 = .ok (.invokevirtual 56, 3) := dk_182 0 56 (dk_at dksX19_number_2 9 rfl rfl)
theorem dX19_number_57 : decode cX19_number 57 = .ok (.ifCond .eq 32, 3) := dk_153 0 32 (dk_at dksX19_number_2 12 rfl rfl)
theorem dX19_number_60 : decode cX19_number 60 = .ok (.bipush 10, 2) := dk_16 10 (dk_at dksX19_number_2 15 rfl rfl)
theorem dX19_number_62 : decode cX19_number 62 = .ok (.iload 4, 2) := dk_21 4 (dk_at dksX19_number_2 17 rfl rfl)
theorem dX19_number_64 : decode cX19_number 64 = .ok (.imul, 1) := dk_104 (dk_at dksX19_number_2 19 rfl rfl)
theorem dX19_number_65 : decode cX19_number 65 = .ok (.aload_n 0, 1) := dk_42 (dk_at dksX19_number_2 20 rfl rfl)
theorem dX19_number_66 : decode cX19_number 66 = .ok (.getfield 9, 3) := dk_180 0 9 (dk_at dksX19_number_2 21 rfl rfl)
theorem dX19_number_69 : decode cX19_number 69 = .ok (.aload_n 0, 1) := dk_42 (dk_at dksX19_number_3 0 rfl rfl)
theorem dX19_number_70 : decode cX19_number 70 = .ok (.dup, 1) := dk_89 (dk_at dksX19_number_3 1 rfl rfl)
theorem dX19_number_71 : decode cX19_number 71 = .ok (.getfield 19, 3) := dk_180 0 19 (dk_at dksX19_number_3 2 rfl rfl)
theorem dX19_number_74 : decode cX19_number 74 = .ok (.dup_x1, 1) := dk_90 (dk_at dksX19_number_3 5 rfl rfl)
theorem dX19_number_75 : decode cX19_number 75 = .ok (.iconst 1, 1) := dk_4 (dk_at dksX19_number_3 6 rfl rfl)
theorem dX19_number_76 : decode cX19_number 76 = .ok (.iadd, 1) := dk_96 (dk_at dksX19_number_3 7 rfl rfl)
theorem dX19_number_77 : decode cX19_number 77 = .ok (.putfield 19, 3) := dk_181 0 19 (dk_at dksX19_number_3 8 rfl rfl)
theorem dX19_number_80 : decode cX19_number 80 = .ok (.invokevirtual 33, 3) := dk_182 0 33 (dk_at dksX19_number_3 11 rfl rfl)
theorem dX19_number_83 : decode cX19_number 83 = .ok (.iadd, 1) := dk_96 (dk_at dksX19_number_3 14 rfl rfl)
theorem dX19_number_84 : decode cX19_number 84 = .ok (.bipush 48, 2) := dk_16 48 (dk_at dksX19_number_3 15 rfl rfl)
theorem dX19_number_86 : decode cX19_number 86 = .ok (.isub, 1) := dk_100 (dk_at dksX19_number_3 17 rfl rfl)
theorem dX19_number_87 : decode cX19_number 87 = .ok (.istore 4, 2) := dk_54 4 (dk_at dksX19_number_3 18 rfl rfl)
theorem dX19_number_89 : decode cX19_number 89 = .ok (.aload_n 0, 1) := dk_42 (dk_at dksX19_number_3 20 rfl rfl)
theorem dX19_number_90 : decode cX19_number 90 = .ok (.iload 4, 2) := dk_21 4 (dk_at dksX19_number_3 21 rfl rfl)
theorem dX19_number_92 : decode cX19_number 92 = .ok (.i2l, 1) := dk_133 (dk_at dksX19_number_3 23 rfl rfl)
theorem dX19_number_93 : decode cX19_number 93 = .ok (.iload_n 1, 1) := dk_27 (dk_at dksX19_number_4 0 rfl rfl)
theorem dX19_number_94 : decode cX19_number 94 = .ok (.i2l, 1) := dk_133 (dk_at dksX19_number_4 1 rfl rfl)
theorem dX19_number_95 : decode cX19_number 95 = .ok (.iload_n 2, 1) := dk_28 (dk_at dksX19_number_4 2 rfl rfl)
theorem dX19_number_96 : decode cX19_number 96 = .ok (.i2l, 1) := dk_133 (dk_at dksX19_number_4 3 rfl rfl)
theorem dX19_number_97 : decode cX19_number 97 = .ok (.invokestatic 59, 3) := dk_184 0 59 (dk_at dksX19_number_4 4 rfl rfl)
theorem dX19_number_100 : decode cX19_number 100 = .ok (.iload_n 3, 1) := dk_29 (dk_at dksX19_number_4 7 rfl rfl)
theorem dX19_number_101 : decode cX19_number 101 = .ok (.invokevirtual 63, 3) := dk_182 0 63 (dk_at dksX19_number_4 8 rfl rfl)
theorem dX19_number_104 : decode cX19_number 104 = .ok (.iload 4, 2) := dk_21 4 (dk_at dksX19_number_4 11 rfl rfl)
theorem dX19_number_106 : decode cX19_number 106 = .ok (.ireturn, 1) := dk_172 (dk_at dksX19_number_4 13 rfl rfl)
abbrev cX19_digit : ByteArray := prog_11_method_6_code
def yX19_digit : MethodName := ⟨RX19, "digit", "()Z"⟩
def dkwX19_digit_1 : List UInt8 := [180, 0, 9, 42, 180, 0, 19, 182, 0, 33, 16, 57, 163, 0, 7, 4, 167, 0, 4, 3, 172]
abbrev dktX19_digit_1 : List UInt8 := dkwX19_digit_1 ++ []
def dkwX19_digit_0 : List UInt8 := [42, 182, 0, 29, 154, 0, 39, 42, 180, 0, 9, 42, 180, 0, 19, 182, 0, 33, 16, 48, 161, 0, 23, 42]
abbrev dktX19_digit_0 : List UInt8 := dkwX19_digit_0 ++ dktX19_digit_1
theorem dksX19_digit_0 : cX19_digit.data.toList.drop 0 = dktX19_digit_0 := by decide +kernel
theorem dksX19_digit_1 : cX19_digit.data.toList.drop 24 = dktX19_digit_1 := dk_seg dksX19_digit_0 24 rfl rfl
theorem dX19_digit_0 : decode cX19_digit 0 = .ok (.aload_n 0, 1) := dk_42 (dk_at dksX19_digit_0 0 rfl rfl)
theorem dX19_digit_1 : decode cX19_digit 1 = .ok (.invokevirtual 29, 3) := dk_182 0 29 (dk_at dksX19_digit_0 1 rfl rfl)
theorem dX19_digit_4 : decode cX19_digit 4 = .ok (.ifCond .ne 39, 3) := dk_154 0 39 (dk_at dksX19_digit_0 4 rfl rfl)
theorem dX19_digit_7 : decode cX19_digit 7 = .ok (.aload_n 0, 1) := dk_42 (dk_at dksX19_digit_0 7 rfl rfl)
theorem dX19_digit_8 : decode cX19_digit 8 = .ok (.getfield 9, 3) := dk_180 0 9 (dk_at dksX19_digit_0 8 rfl rfl)
theorem dX19_digit_11 : decode cX19_digit 11 = .ok (.aload_n 0, 1) := dk_42 (dk_at dksX19_digit_0 11 rfl rfl)
theorem dX19_digit_12 : decode cX19_digit 12 = .ok (.getfield 19, 3) := dk_180 0 19 (dk_at dksX19_digit_0 12 rfl rfl)
theorem dX19_digit_15 : decode cX19_digit 15 = .ok (.invokevirtual 33, 3) := dk_182 0 33 (dk_at dksX19_digit_0 15 rfl rfl)
theorem dX19_digit_18 : decode cX19_digit 18 = .ok (.bipush 48, 2) := dk_16 48 (dk_at dksX19_digit_0 18 rfl rfl)
theorem dX19_digit_20 : decode cX19_digit 20 = .ok (.if_icmp .lt 23, 3) := dk_161 0 23 (dk_at dksX19_digit_0 20 rfl rfl)
theorem dX19_digit_23 : decode cX19_digit 23 = .ok (.aload_n 0, 1) := dk_42 (dk_at dksX19_digit_0 23 rfl rfl)
theorem dX19_digit_24 : decode cX19_digit 24 = .ok (.getfield 9, 3) := dk_180 0 9 (dk_at dksX19_digit_1 0 rfl rfl)
theorem dX19_digit_27 : decode cX19_digit 27 = .ok (.aload_n 0, 1) := dk_42 (dk_at dksX19_digit_1 3 rfl rfl)
theorem dX19_digit_28 : decode cX19_digit 28 = .ok (.getfield 19, 3) := dk_180 0 19 (dk_at dksX19_digit_1 4 rfl rfl)
theorem dX19_digit_31 : decode cX19_digit 31 = .ok (.invokevirtual 33, 3) := dk_182 0 33 (dk_at dksX19_digit_1 7 rfl rfl)
theorem dX19_digit_34 : decode cX19_digit 34 = .ok (.bipush 57, 2) := dk_16 57 (dk_at dksX19_digit_1 10 rfl rfl)
theorem dX19_digit_36 : decode cX19_digit 36 = .ok (.if_icmp .gt 7, 3) := dk_163 0 7 (dk_at dksX19_digit_1 12 rfl rfl)
theorem dX19_digit_39 : decode cX19_digit 39 = .ok (.iconst 1, 1) := dk_4 (dk_at dksX19_digit_1 15 rfl rfl)
theorem dX19_digit_40 : decode cX19_digit 40 = .ok (.goto 4, 3) := dk_167 0 4 (dk_at dksX19_digit_1 16 rfl rfl)
theorem dX19_digit_43 : decode cX19_digit 43 = .ok (.iconst 0, 1) := dk_3 (dk_at dksX19_digit_1 19 rfl rfl)
theorem dX19_digit_44 : decode cX19_digit 44 = .ok (.ireturn, 1) := dk_172 (dk_at dksX19_digit_1 20 rfl rfl)
abbrev cX19_step : ByteArray := prog_11_method_8_code
def yX19_step : MethodName := ⟨RX19, "step", "()I"⟩
def dkwX19_step_1 : List UInt8 := [180, 0, 15, 28, 182, 0, 76, 27, 182, 0, 63, 28, 172]
abbrev dktX19_step_1 : List UInt8 := dkwX19_step_1 ++ []
def dkwX19_step_0 : List UInt8 := [42, 180, 0, 19, 4, 96, 60, 42, 3, 42, 180, 0, 15, 180, 0, 67, 182, 0, 72, 61, 42, 42]
abbrev dktX19_step_0 : List UInt8 := dkwX19_step_0 ++ dktX19_step_1
theorem dksX19_step_0 : cX19_step.data.toList.drop 0 = dktX19_step_0 := by decide +kernel
theorem dksX19_step_1 : cX19_step.data.toList.drop 22 = dktX19_step_1 := dk_seg dksX19_step_0 22 rfl rfl
theorem dX19_step_0 : decode cX19_step 0 = .ok (.aload_n 0, 1) := dk_42 (dk_at dksX19_step_0 0 rfl rfl)
theorem dX19_step_1 : decode cX19_step 1 = .ok (.getfield 19, 3) := dk_180 0 19 (dk_at dksX19_step_0 1 rfl rfl)
theorem dX19_step_4 : decode cX19_step 4 = .ok (.iconst 1, 1) := dk_4 (dk_at dksX19_step_0 4 rfl rfl)
theorem dX19_step_5 : decode cX19_step 5 = .ok (.iadd, 1) := dk_96 (dk_at dksX19_step_0 5 rfl rfl)
theorem dX19_step_6 : decode cX19_step 6 = .ok (.istore_n 1, 1) := dk_60 (dk_at dksX19_step_0 6 rfl rfl)
theorem dX19_step_7 : decode cX19_step 7 = .ok (.aload_n 0, 1) := dk_42 (dk_at dksX19_step_0 7 rfl rfl)
theorem dX19_step_8 : decode cX19_step 8 = .ok (.iconst 0, 1) := dk_3 (dk_at dksX19_step_0 8 rfl rfl)
theorem dX19_step_9 : decode cX19_step 9 = .ok (.aload_n 0, 1) := dk_42 (dk_at dksX19_step_0 9 rfl rfl)
theorem dX19_step_10 : decode cX19_step 10 = .ok (.getfield 15, 3) := dk_180 0 15 (dk_at dksX19_step_0 10 rfl rfl)
theorem dX19_step_13 : decode cX19_step 13 = .ok (.getfield 67, 3) := dk_180 0 67 (dk_at dksX19_step_0 13 rfl rfl)
theorem dX19_step_16 : decode cX19_step 16 = .ok (.invokevirtual 72, 3) := dk_182 0 72 (dk_at dksX19_step_0 16 rfl rfl)
theorem dX19_step_19 : decode cX19_step 19 = .ok (.istore_n 2, 1) := dk_61 (dk_at dksX19_step_0 19 rfl rfl)
theorem dX19_step_20 : decode cX19_step 20 = .ok (.aload_n 0, 1) := dk_42 (dk_at dksX19_step_0 20 rfl rfl)
theorem dX19_step_21 : decode cX19_step 21 = .ok (.aload_n 0, 1) := dk_42 (dk_at dksX19_step_0 21 rfl rfl)
theorem dX19_step_22 : decode cX19_step 22 = .ok (.getfield 15, 3) := dk_180 0 15 (dk_at dksX19_step_1 0 rfl rfl)
theorem dX19_step_25 : decode cX19_step 25 = .ok (.iload_n 2, 1) := dk_28 (dk_at dksX19_step_1 3 rfl rfl)
theorem dX19_step_26 : decode cX19_step 26 = .ok (.invokevirtual 76, 3) := dk_182 0 76 (dk_at dksX19_step_1 4 rfl rfl)
theorem dX19_step_29 : decode cX19_step 29 = .ok (.iload_n 1, 1) := dk_27 (dk_at dksX19_step_1 7 rfl rfl)
theorem dX19_step_30 : decode cX19_step 30 = .ok (.invokevirtual 63, 3) := dk_182 0 63 (dk_at dksX19_step_1 8 rfl rfl)
theorem dX19_step_33 : decode cX19_step 33 = .ok (.iload_n 2, 1) := dk_28 (dk_at dksX19_step_1 11 rfl rfl)
theorem dX19_step_34 : decode cX19_step 34 = .ok (.ireturn, 1) := dk_172 (dk_at dksX19_step_1 12 rfl rfl)
abbrev cX19_withW : ByteArray := prog_11_method_12_code
def yX19_withW : MethodName := ⟨RX19, "withW", "(I)V"⟩
def dkwX19_withW_4 : List UInt8 := [3, 16, 99, 182, 0, 72, 182, 0, 141, 177]
abbrev dktX19_withW_4 : List UInt8 := dkwX19_withW_4 ++ []
def dkwX19_withW_3 : List UInt8 := [180, 0, 15, 180, 0, 88, 4, 100, 182, 0, 72, 61, 42, 182, 0, 91, 62, 42, 180, 0, 15, 28, 29, 42]
abbrev dktX19_withW_3 : List UInt8 := dkwX19_withW_3 ++ dktX19_withW_4
def dkwX19_withW_2 : List UInt8 := [180, 0, 15, 180, 0, 138, 7, 162, 0, 7, 4, 167, 0, 4, 3, 27, 182, 0, 63, 42, 3, 42]
abbrev dktX19_withW_2 : List UInt8 := dkwX19_withW_2 ++ dktX19_withW_3
def dkwX19_withW_1 : List UInt8 := [180, 0, 15, 42, 3, 16, 9, 182, 0, 72, 181, 0, 133, 177, 42, 18, 136, 182, 0, 84, 42, 42]
abbrev dktX19_withW_1 : List UInt8 := dkwX19_withW_1 ++ dktX19_withW_2
def dkwX19_withW_0 : List UInt8 := [42, 16, 119, 182, 0, 53, 42, 16, 105, 182, 0, 37, 153, 0, 24, 42, 18, 131, 182, 0, 84, 42]
abbrev dktX19_withW_0 : List UInt8 := dkwX19_withW_0 ++ dktX19_withW_1
theorem dksX19_withW_0 : cX19_withW.data.toList.drop 0 = dktX19_withW_0 := by decide +kernel
theorem dksX19_withW_1 : cX19_withW.data.toList.drop 22 = dktX19_withW_1 := dk_seg dksX19_withW_0 22 rfl rfl
theorem dksX19_withW_2 : cX19_withW.data.toList.drop 44 = dktX19_withW_2 := dk_seg dksX19_withW_1 22 rfl rfl
theorem dksX19_withW_3 : cX19_withW.data.toList.drop 66 = dktX19_withW_3 := dk_seg dksX19_withW_2 22 rfl rfl
theorem dksX19_withW_4 : cX19_withW.data.toList.drop 90 = dktX19_withW_4 := dk_seg dksX19_withW_3 24 rfl rfl
theorem dX19_withW_0 : decode cX19_withW 0 = .ok (.aload_n 0, 1) := dk_42 (dk_at dksX19_withW_0 0 rfl rfl)
theorem dX19_withW_1 : decode cX19_withW 1 = .ok (.bipush 119, 2) := dk_16 119 (dk_at dksX19_withW_0 1 rfl rfl)
theorem dX19_withW_3 : decode cX19_withW 3 = .ok (.invokevirtual 53, 3) := dk_182 0 53 (dk_at dksX19_withW_0 3 rfl rfl)
theorem dX19_withW_6 : decode cX19_withW 6 = .ok (.aload_n 0, 1) := dk_42 (dk_at dksX19_withW_0 6 rfl rfl)
theorem dX19_withW_7 : decode cX19_withW 7 = .ok (.bipush 105, 2) := dk_16 105 (dk_at dksX19_withW_0 7 rfl rfl)
theorem dX19_withW_9 : decode cX19_withW 9 = .ok (.invokevirtual 37, 3) := dk_182 0 37 (dk_at dksX19_withW_0 9 rfl rfl)
theorem dX19_withW_12 : decode cX19_withW 12 = .ok (.ifCond .eq 24, 3) := dk_153 0 24 (dk_at dksX19_withW_0 12 rfl rfl)
theorem dX19_withW_15 : decode cX19_withW 15 = .ok (.aload_n 0, 1) := dk_42 (dk_at dksX19_withW_0 15 rfl rfl)
theorem dX19_withW_16 : decode cX19_withW 16 = .ok (.ldc 131, 2) := dk_18 131 (dk_at dksX19_withW_0 16 rfl rfl)
theorem dX19_withW_18 : decode cX19_withW 18 = .ok (.invokevirtual 84, 3) := dk_182 0 84 (dk_at dksX19_withW_0 18 rfl rfl)
theorem dX19_withW_21 : decode cX19_withW 21 = .ok (.aload_n 0, 1) := dk_42 (dk_at dksX19_withW_0 21 rfl rfl)
theorem dX19_withW_22 : decode cX19_withW 22 = .ok (.getfield 15, 3) := dk_180 0 15 (dk_at dksX19_withW_1 0 rfl rfl)
theorem dX19_withW_25 : decode cX19_withW 25 = .ok (.aload_n 0, 1) := dk_42 (dk_at dksX19_withW_1 3 rfl rfl)
theorem dX19_withW_26 : decode cX19_withW 26 = .ok (.iconst 0, 1) := dk_3 (dk_at dksX19_withW_1 4 rfl rfl)
theorem dX19_withW_27 : decode cX19_withW 27 = .ok (.bipush 9, 2) := dk_16 9 (dk_at dksX19_withW_1 5 rfl rfl)
theorem dX19_withW_29 : decode cX19_withW 29 = .ok (.invokevirtual 72, 3) := dk_182 0 72 (dk_at dksX19_withW_1 7 rfl rfl)
theorem dX19_withW_32 : decode cX19_withW 32 = .ok (.putfield 133, 3) := dk_181 0 133 (dk_at dksX19_withW_1 10 rfl rfl)
theorem dX19_withW_35 : decode cX19_withW 35 = .ok (.return_, 1) := dk_177 (dk_at dksX19_withW_1 13 rfl rfl)
theorem dX19_withW_36 : decode cX19_withW 36 = .ok (.aload_n 0, 1) := dk_42 (dk_at dksX19_withW_1 14 rfl rfl)
theorem dX19_withW_37 : decode cX19_withW 37 = .ok (.ldc 136, 2) := dk_18 136 (dk_at dksX19_withW_1 15 rfl rfl)
theorem dX19_withW_39 : decode cX19_withW 39 = .ok (.invokevirtual 84, 3) := dk_182 0 84 (dk_at dksX19_withW_1 17 rfl rfl)
theorem dX19_withW_42 : decode cX19_withW 42 = .ok (.aload_n 0, 1) := dk_42 (dk_at dksX19_withW_1 20 rfl rfl)
theorem dX19_withW_43 : decode cX19_withW 43 = .ok (.aload_n 0, 1) := dk_42 (dk_at dksX19_withW_1 21 rfl rfl)
theorem dX19_withW_44 : decode cX19_withW 44 = .ok (.getfield 15, 3) := dk_180 0 15 (dk_at dksX19_withW_2 0 rfl rfl)
theorem dX19_withW_47 : decode cX19_withW 47 = .ok (.getfield 138, 3) := dk_180 0 138 (dk_at dksX19_withW_2 3 rfl rfl)
theorem dX19_withW_50 : decode cX19_withW 50 = .ok (.iconst 4, 1) := dk_7 (dk_at dksX19_withW_2 6 rfl rfl)
theorem dX19_withW_51 : decode cX19_withW 51 = .ok (.if_icmp .ge 7, 3) := dk_162 0 7 (dk_at dksX19_withW_2 7 rfl rfl)
theorem dX19_withW_54 : decode cX19_withW 54 = .ok (.iconst 1, 1) := dk_4 (dk_at dksX19_withW_2 10 rfl rfl)
theorem dX19_withW_55 : decode cX19_withW 55 = .ok (.goto 4, 3) := dk_167 0 4 (dk_at dksX19_withW_2 11 rfl rfl)
theorem dX19_withW_58 : decode cX19_withW 58 = .ok (.iconst 0, 1) := dk_3 (dk_at dksX19_withW_2 14 rfl rfl)
theorem dX19_withW_59 : decode cX19_withW 59 = .ok (.iload_n 1, 1) := dk_27 (dk_at dksX19_withW_2 15 rfl rfl)
theorem dX19_withW_60 : decode cX19_withW 60 = .ok (.invokevirtual 63, 3) := dk_182 0 63 (dk_at dksX19_withW_2 16 rfl rfl)
theorem dX19_withW_63 : decode cX19_withW 63 = .ok (.aload_n 0, 1) := dk_42 (dk_at dksX19_withW_2 19 rfl rfl)
theorem dX19_withW_64 : decode cX19_withW 64 = .ok (.iconst 0, 1) := dk_3 (dk_at dksX19_withW_2 20 rfl rfl)
theorem dX19_withW_65 : decode cX19_withW 65 = .ok (.aload_n 0, 1) := dk_42 (dk_at dksX19_withW_2 21 rfl rfl)
theorem dX19_withW_66 : decode cX19_withW 66 = .ok (.getfield 15, 3) := dk_180 0 15 (dk_at dksX19_withW_3 0 rfl rfl)
theorem dX19_withW_69 : decode cX19_withW 69 = .ok (.getfield 88, 3) := dk_180 0 88 (dk_at dksX19_withW_3 3 rfl rfl)
theorem dX19_withW_72 : decode cX19_withW 72 = .ok (.iconst 1, 1) := dk_4 (dk_at dksX19_withW_3 6 rfl rfl)
theorem dX19_withW_73 : decode cX19_withW 73 = .ok (.isub, 1) := dk_100 (dk_at dksX19_withW_3 7 rfl rfl)
theorem dX19_withW_74 : decode cX19_withW 74 = .ok (.invokevirtual 72, 3) := dk_182 0 72 (dk_at dksX19_withW_3 8 rfl rfl)
theorem dX19_withW_77 : decode cX19_withW 77 = .ok (.istore_n 2, 1) := dk_61 (dk_at dksX19_withW_3 11 rfl rfl)
theorem dX19_withW_78 : decode cX19_withW 78 = .ok (.aload_n 0, 1) := dk_42 (dk_at dksX19_withW_3 12 rfl rfl)
theorem dX19_withW_79 : decode cX19_withW 79 = .ok (.invokevirtual 91, 3) := dk_182 0 91 (dk_at dksX19_withW_3 13 rfl rfl)
theorem dX19_withW_82 : decode cX19_withW 82 = .ok (.istore_n 3, 1) := dk_62 (dk_at dksX19_withW_3 16 rfl rfl)
theorem dX19_withW_83 : decode cX19_withW 83 = .ok (.aload_n 0, 1) := dk_42 (dk_at dksX19_withW_3 17 rfl rfl)
theorem dX19_withW_84 : decode cX19_withW 84 = .ok (.getfield 15, 3) := dk_180 0 15 (dk_at dksX19_withW_3 18 rfl rfl)
theorem dX19_withW_87 : decode cX19_withW 87 = .ok (.iload_n 2, 1) := dk_28 (dk_at dksX19_withW_3 21 rfl rfl)
theorem dX19_withW_88 : decode cX19_withW 88 = .ok (.iload_n 3, 1) := dk_29 (dk_at dksX19_withW_3 22 rfl rfl)
theorem dX19_withW_89 : decode cX19_withW 89 = .ok (.aload_n 0, 1) := dk_42 (dk_at dksX19_withW_3 23 rfl rfl)
theorem dX19_withW_90 : decode cX19_withW 90 = .ok (.iconst 0, 1) := dk_3 (dk_at dksX19_withW_4 0 rfl rfl)
theorem dX19_withW_91 : decode cX19_withW 91 = .ok (.bipush 99, 2) := dk_16 99 (dk_at dksX19_withW_4 1 rfl rfl)
theorem dX19_withW_93 : decode cX19_withW 93 = .ok (.invokevirtual 72, 3) := dk_182 0 72 (dk_at dksX19_withW_4 3 rfl rfl)
theorem dX19_withW_96 : decode cX19_withW 96 = .ok (.invokevirtual 141, 3) := dk_182 0 141 (dk_at dksX19_withW_4 6 rfl rfl)
theorem dX19_withW_99 : decode cX19_withW 99 = .ok (.return_, 1) := dk_177 (dk_at dksX19_withW_4 9 rfl rfl)
theorem q108 : (Jvm.Cond.initialized "NoFartherThanAThrow$Reader") ∈ lw_all := lw_g (lw_at lw_m1 30 rfl) rfl
theorem q175 : (Jvm.Cond.fieldLink "NoFartherThanAThrow$Reader" (67 : Nat) "NoFartherThanAThrow$World" "longWay" "I") ∈ lw_all := lw_g (lw_at lw_m1 97 rfl) rfl
theorem q178 : (Jvm.Cond.fieldLink "NoFartherThanAThrow$Reader" (125 : Nat) "NoFartherThanAThrow$World" "from" "I") ∈ lw_all := lw_g (lw_at lw_m1 100 rfl) rfl
theorem q181 : (Jvm.Cond.fieldLink "NoFartherThanAThrow$Reader" (128 : Nat) "NoFartherThanAThrow$World" "to" "I") ∈ lw_all := lw_g (lw_at lw_m1 103 rfl) rfl
theorem q185 : (Jvm.Cond.fieldLink "NoFartherThanAThrow$Reader" (133 : Nat) "NoFartherThanAThrow$World" "wind" "I") ∈ lw_all := lw_g (lw_at lw_m1 107 rfl) rfl
theorem q189 : (Jvm.Cond.fieldLink "NoFartherThanAThrow$Reader" (88 : Nat) "NoFartherThanAThrow$World" "thingsThere" "I") ∈ lw_all := lw_g (lw_at lw_m1 111 rfl) rfl
theorem q193 : (Jvm.Cond.fieldLink "NoFartherThanAThrow$Reader" (100 : Nat) "NoFartherThanAThrow$World" "peopleThere" "I") ∈ lw_all := lw_g (lw_at lw_m1 115 rfl) rfl
theorem q196 : (Jvm.Cond.fieldLink "NoFartherThanAThrow$Reader" (138 : Nat) "NoFartherThanAThrow$World" "wantsThere" "I") ∈ lw_all := lw_g (lw_at lw_m1 118 rfl) rfl
theorem q936 : (Jvm.Cond.instantiable "NoFartherThanAThrow$Reader" (3 : Nat)) ∈ lw_all := lw_g (lw_at lw_m4 138 rfl) rfl
theorem q938 : (Jvm.Cond.instanceMethod ({ cls := "NoFartherThanAThrow$Reader", name := "<init>", desc := "(LNoFartherThanAThrow$Row;LNoFartherThanAThrow$World;)V" } : Jvm.MethodName)) ∈ lw_all := lw_g (lw_at lw_m4 140 rfl) rfl
theorem q939 : (Jvm.Cond.code ({ cls := "NoFartherThanAThrow$Reader", name := "<init>", desc := "(LNoFartherThanAThrow$Row;LNoFartherThanAThrow$World;)V" } : Jvm.MethodName) prog_11_method_1_code (3 : Nat) (Option.none : Option Jvm.ClassFile.FieldType)) ∈ lw_all := lw_g (lw_at lw_m4 141 rfl) rfl
theorem q940 : (Jvm.Cond.methodLink "NoFartherThanAThrow$Reader" (3 : Nat) ({ cls := "java/lang/Object", name := "<init>", desc := "()V" } : Jvm.MethodName)) ∈ lw_all := lw_g (lw_at lw_m4 142 rfl) rfl
theorem q941 : (Jvm.Cond.fieldLink "NoFartherThanAThrow$Reader" (9 : Nat) "NoFartherThanAThrow$Reader" "text" "LNoFartherThanAThrow$Row;") ∈ lw_all := lw_g (lw_at lw_m4 143 rfl) rfl
theorem q942 : (Jvm.Cond.fieldLink "NoFartherThanAThrow$Reader" (15 : Nat) "NoFartherThanAThrow$Reader" "w" "LNoFartherThanAThrow$World;") ∈ lw_all := lw_g (lw_at lw_m4 144 rfl) rfl
theorem q943 : (Jvm.Cond.fieldLink "NoFartherThanAThrow$Reader" (19 : Nat) "NoFartherThanAThrow$Reader" "at" "I") ∈ lw_all := lw_g (lw_at lw_m4 145 rfl) rfl
theorem q944 : (Jvm.Cond.laysFinal "NoFartherThanAThrow$Reader" "NoFartherThanAThrow$Reader" "text" "LNoFartherThanAThrow$Row;") ∈ lw_all := lw_g (lw_at lw_m4 146 rfl) rfl
theorem q945 : (Jvm.Cond.soleField "NoFartherThanAThrow$Reader" "text") ∈ lw_all := lw_g (lw_at lw_m4 147 rfl) rfl
theorem q946 : (Jvm.Cond.laysFinal "NoFartherThanAThrow$Reader" "NoFartherThanAThrow$Reader" "w" "LNoFartherThanAThrow$World;") ∈ lw_all := lw_g (lw_at lw_m4 148 rfl) rfl
theorem q947 : (Jvm.Cond.soleField "NoFartherThanAThrow$Reader" "w") ∈ lw_all := lw_g (lw_at lw_m4 149 rfl) rfl
theorem q948 : (Jvm.Cond.lays "NoFartherThanAThrow$Reader" "NoFartherThanAThrow$Reader" "at" "I") ∈ lw_all := lw_g (lw_at lw_m4 150 rfl) rfl
theorem q949 : (Jvm.Cond.soleField "NoFartherThanAThrow$Reader" "at") ∈ lw_all := lw_g (lw_at lw_m4 151 rfl) rfl
theorem q950 : (Jvm.Cond.superclass "NoFartherThanAThrow$Reader" "java/lang/Object") ∈ lw_all := lw_g (lw_at lw_m4 152 rfl) rfl
theorem q952 : (Jvm.Cond.instanceMethod ({ cls := "NoFartherThanAThrow$Reader", name := "items", desc := "()I" } : Jvm.MethodName)) ∈ lw_all := lw_g (lw_at lw_m4 154 rfl) rfl
theorem q953 : (Jvm.Cond.selects "NoFartherThanAThrow$Reader" ({ cls := "NoFartherThanAThrow$Reader", name := "items", desc := "()I" } : Jvm.MethodName) ({ cls := "NoFartherThanAThrow$Reader", name := "items", desc := "()I" } : Jvm.MethodName)) ∈ lw_all := lw_g (lw_at lw_m4 155 rfl) rfl
theorem q954 : (Jvm.Cond.code ({ cls := "NoFartherThanAThrow$Reader", name := "items", desc := "()I" } : Jvm.MethodName) prog_11_method_10_code (2 : Nat) (Option.some Jvm.ClassFile.FieldType.int)) ∈ lw_all := lw_g (lw_at lw_m4 156 rfl) rfl
theorem q955 : (Jvm.Cond.methodLink "NoFartherThanAThrow$Reader" (79 : Nat) ({ cls := "NoFartherThanAThrow$Reader", name := "item", desc := "()V" } : Jvm.MethodName)) ∈ lw_all := lw_g (lw_at lw_m4 157 rfl) rfl
theorem q956 : (Jvm.Cond.privateMethod ({ cls := "NoFartherThanAThrow$Reader", name := "item", desc := "()V" } : Jvm.MethodName)) ∈ lw_tbl := lw_at lw_m4 158 rfl
theorem q957 : (Jvm.Cond.instanceMethod ({ cls := "NoFartherThanAThrow$Reader", name := "item", desc := "()V" } : Jvm.MethodName)) ∈ lw_all := lw_g (lw_at lw_m4 159 rfl) rfl
theorem q958 : (Jvm.Cond.code ({ cls := "NoFartherThanAThrow$Reader", name := "item", desc := "()V" } : Jvm.MethodName) prog_11_method_11_code (5 : Nat) (Option.none : Option Jvm.ClassFile.FieldType)) ∈ lw_all := lw_g (lw_at lw_m4 160 rfl) rfl
theorem q959 : (Jvm.Cond.methodLink "NoFartherThanAThrow$Reader" (37 : Nat) ({ cls := "NoFartherThanAThrow$Reader", name := "sees", desc := "(I)Z" } : Jvm.MethodName)) ∈ lw_all := lw_g (lw_at lw_m4 161 rfl) rfl
theorem q960 : (Jvm.Cond.privateMethod ({ cls := "NoFartherThanAThrow$Reader", name := "sees", desc := "(I)Z" } : Jvm.MethodName)) ∈ lw_tbl := lw_at lw_m4 162 rfl
theorem q961 : (Jvm.Cond.instanceMethod ({ cls := "NoFartherThanAThrow$Reader", name := "sees", desc := "(I)Z" } : Jvm.MethodName)) ∈ lw_all := lw_g (lw_at lw_m4 163 rfl) rfl
theorem q962 : (Jvm.Cond.code ({ cls := "NoFartherThanAThrow$Reader", name := "sees", desc := "(I)Z" } : Jvm.MethodName) prog_11_method_3_code (2 : Nat) (Option.some Jvm.ClassFile.FieldType.boolean)) ∈ lw_all := lw_g (lw_at lw_m4 164 rfl) rfl
theorem q963 : (Jvm.Cond.methodLink "NoFartherThanAThrow$Reader" (29 : Nat) ({ cls := "NoFartherThanAThrow$Reader", name := "ends", desc := "()Z" } : Jvm.MethodName)) ∈ lw_all := lw_g (lw_at lw_m4 165 rfl) rfl
theorem q964 : (Jvm.Cond.privateMethod ({ cls := "NoFartherThanAThrow$Reader", name := "ends", desc := "()Z" } : Jvm.MethodName)) ∈ lw_tbl := lw_at lw_m4 166 rfl
theorem q965 : (Jvm.Cond.instanceMethod ({ cls := "NoFartherThanAThrow$Reader", name := "ends", desc := "()Z" } : Jvm.MethodName)) ∈ lw_all := lw_g (lw_at lw_m4 167 rfl) rfl
theorem q966 : (Jvm.Cond.code ({ cls := "NoFartherThanAThrow$Reader", name := "ends", desc := "()Z" } : Jvm.MethodName) prog_11_method_2_code (1 : Nat) (Option.some Jvm.ClassFile.FieldType.boolean)) ∈ lw_all := lw_g (lw_at lw_m4 168 rfl) rfl
theorem q967 : (Jvm.Cond.methodLink "NoFartherThanAThrow$Reader" (23 : Nat) ({ cls := "NoFartherThanAThrow$Row", name := "length", desc := "()I" } : Jvm.MethodName)) ∈ lw_all := lw_g (lw_at lw_m4 169 rfl) rfl
theorem q968 : (Jvm.Cond.methodLink "NoFartherThanAThrow$Reader" (33 : Nat) ({ cls := "NoFartherThanAThrow$Row", name := "asInt", desc := "(I)I" } : Jvm.MethodName)) ∈ lw_all := lw_g (lw_at lw_m4 170 rfl) rfl
theorem q969 : (Jvm.Cond.stringRef "NoFartherThanAThrow$Reader" (82 : Nat) "thing") ∈ lw_tbl := lw_at lw_m4 171 rfl
theorem q970 : (Jvm.Cond.methodLink "NoFartherThanAThrow$Reader" (84 : Nat) ({ cls := "NoFartherThanAThrow$Reader", name := "word", desc := "(Ljava/lang/String;)V" } : Jvm.MethodName)) ∈ lw_all := lw_g (lw_at lw_m4 172 rfl) rfl
theorem q971 : (Jvm.Cond.privateMethod ({ cls := "NoFartherThanAThrow$Reader", name := "word", desc := "(Ljava/lang/String;)V" } : Jvm.MethodName)) ∈ lw_tbl := lw_at lw_m4 173 rfl
theorem q972 : (Jvm.Cond.instanceMethod ({ cls := "NoFartherThanAThrow$Reader", name := "word", desc := "(Ljava/lang/String;)V" } : Jvm.MethodName)) ∈ lw_all := lw_g (lw_at lw_m4 174 rfl) rfl
theorem q973 : (Jvm.Cond.code ({ cls := "NoFartherThanAThrow$Reader", name := "word", desc := "(Ljava/lang/String;)V" } : Jvm.MethodName) prog_11_method_5_code (3 : Nat) (Option.none : Option Jvm.ClassFile.FieldType)) ∈ lw_all := lw_g (lw_at lw_m4 175 rfl) rfl
theorem q974 : (Jvm.Cond.methodLink "NoFartherThanAThrow$Reader" (46 : Nat) ({ cls := "java/lang/String", name := "length", desc := "()I" } : Jvm.MethodName)) ∈ lw_all := lw_g (lw_at lw_m4 176 rfl) rfl
theorem q984 : (Jvm.Cond.methodLink "NoFartherThanAThrow$Reader" (49 : Nat) ({ cls := "java/lang/String", name := "charAt", desc := "(I)C" } : Jvm.MethodName)) ∈ lw_all := lw_g (lw_at lw_m4 186 rfl) rfl
theorem q1022 : (Jvm.Cond.methodLink "NoFartherThanAThrow$Reader" (53 : Nat) ({ cls := "NoFartherThanAThrow$Reader", name := "must", desc := "(I)V" } : Jvm.MethodName)) ∈ lw_all := lw_g (lw_at lw_m4 224 rfl) rfl
theorem q1023 : (Jvm.Cond.privateMethod ({ cls := "NoFartherThanAThrow$Reader", name := "must", desc := "(I)V" } : Jvm.MethodName)) ∈ lw_tbl := lw_at lw_m4 225 rfl
theorem q1024 : (Jvm.Cond.instanceMethod ({ cls := "NoFartherThanAThrow$Reader", name := "must", desc := "(I)V" } : Jvm.MethodName)) ∈ lw_all := lw_g (lw_at lw_m4 226 rfl) rfl
theorem q1025 : (Jvm.Cond.code ({ cls := "NoFartherThanAThrow$Reader", name := "must", desc := "(I)V" } : Jvm.MethodName) prog_11_method_4_code (2 : Nat) (Option.none : Option Jvm.ClassFile.FieldType)) ∈ lw_all := lw_g (lw_at lw_m4 227 rfl) rfl
theorem q1026 : (Jvm.Cond.classLink "NoFartherThanAThrow$Reader" (41 : Nat) "NoFartherThanAThrow$Faulty") ∈ lw_all := lw_g (lw_at lw_m4 228 rfl) rfl
theorem q1035 : (Jvm.Cond.methodLink "NoFartherThanAThrow$Reader" (43 : Nat) ({ cls := "NoFartherThanAThrow$Faulty", name := "<init>", desc := "(I)V" } : Jvm.MethodName)) ∈ lw_all := lw_g (lw_at lw_m4 237 rfl) rfl
theorem q1045 : (Jvm.Cond.methodLink "NoFartherThanAThrow$Reader" (63 : Nat) ({ cls := "NoFartherThanAThrow$Reader", name := "hasRoom", desc := "(ZI)V" } : Jvm.MethodName)) ∈ lw_all := lw_g (lw_at lw_m5 7 rfl) rfl
theorem q1046 : (Jvm.Cond.privateMethod ({ cls := "NoFartherThanAThrow$Reader", name := "hasRoom", desc := "(ZI)V" } : Jvm.MethodName)) ∈ lw_tbl := lw_at lw_m5 8 rfl
theorem q1047 : (Jvm.Cond.instanceMethod ({ cls := "NoFartherThanAThrow$Reader", name := "hasRoom", desc := "(ZI)V" } : Jvm.MethodName)) ∈ lw_all := lw_g (lw_at lw_m5 9 rfl) rfl
theorem q1048 : (Jvm.Cond.code ({ cls := "NoFartherThanAThrow$Reader", name := "hasRoom", desc := "(ZI)V" } : Jvm.MethodName) prog_11_method_9_code (3 : Nat) (Option.none : Option Jvm.ClassFile.FieldType)) ∈ lw_all := lw_g (lw_at lw_m5 10 rfl) rfl
theorem q1049 : (Jvm.Cond.methodLink "NoFartherThanAThrow$Reader" (72 : Nat) ({ cls := "NoFartherThanAThrow$Reader", name := "number", desc := "(II)I" } : Jvm.MethodName)) ∈ lw_all := lw_g (lw_at lw_m5 11 rfl) rfl
theorem q1050 : (Jvm.Cond.privateMethod ({ cls := "NoFartherThanAThrow$Reader", name := "number", desc := "(II)I" } : Jvm.MethodName)) ∈ lw_tbl := lw_at lw_m5 12 rfl
theorem q1051 : (Jvm.Cond.instanceMethod ({ cls := "NoFartherThanAThrow$Reader", name := "number", desc := "(II)I" } : Jvm.MethodName)) ∈ lw_all := lw_g (lw_at lw_m5 13 rfl) rfl
theorem q1052 : (Jvm.Cond.code ({ cls := "NoFartherThanAThrow$Reader", name := "number", desc := "(II)I" } : Jvm.MethodName) prog_11_method_7_code (5 : Nat) (Option.some Jvm.ClassFile.FieldType.int)) ∈ lw_all := lw_g (lw_at lw_m5 14 rfl) rfl
theorem q1053 : (Jvm.Cond.methodLink "NoFartherThanAThrow$Reader" (56 : Nat) ({ cls := "NoFartherThanAThrow$Reader", name := "digit", desc := "()Z" } : Jvm.MethodName)) ∈ lw_all := lw_g (lw_at lw_m5 15 rfl) rfl
theorem q1054 : (Jvm.Cond.privateMethod ({ cls := "NoFartherThanAThrow$Reader", name := "digit", desc := "()Z" } : Jvm.MethodName)) ∈ lw_tbl := lw_at lw_m5 16 rfl
theorem q1055 : (Jvm.Cond.instanceMethod ({ cls := "NoFartherThanAThrow$Reader", name := "digit", desc := "()Z" } : Jvm.MethodName)) ∈ lw_all := lw_g (lw_at lw_m5 17 rfl) rfl
theorem q1056 : (Jvm.Cond.code ({ cls := "NoFartherThanAThrow$Reader", name := "digit", desc := "()Z" } : Jvm.MethodName) prog_11_method_6_code (1 : Nat) (Option.some Jvm.ClassFile.FieldType.boolean)) ∈ lw_all := lw_g (lw_at lw_m5 18 rfl) rfl
theorem q1057 : (Jvm.Cond.methodLink "NoFartherThanAThrow$Reader" (59 : Nat) ({ cls := "NoFartherThanAThrow", name := "in", desc := "(JJJ)Z" } : Jvm.MethodName)) ∈ lw_all := lw_g (lw_at lw_m5 19 rfl) rfl
theorem q1058 : (Jvm.Cond.methodLink "NoFartherThanAThrow$Reader" (91 : Nat) ({ cls := "NoFartherThanAThrow$Reader", name := "step", desc := "()I" } : Jvm.MethodName)) ∈ lw_all := lw_g (lw_at lw_m5 20 rfl) rfl
theorem q1059 : (Jvm.Cond.privateMethod ({ cls := "NoFartherThanAThrow$Reader", name := "step", desc := "()I" } : Jvm.MethodName)) ∈ lw_tbl := lw_at lw_m5 21 rfl
theorem q1060 : (Jvm.Cond.instanceMethod ({ cls := "NoFartherThanAThrow$Reader", name := "step", desc := "()I" } : Jvm.MethodName)) ∈ lw_all := lw_g (lw_at lw_m5 22 rfl) rfl
theorem q1061 : (Jvm.Cond.code ({ cls := "NoFartherThanAThrow$Reader", name := "step", desc := "()I" } : Jvm.MethodName) prog_11_method_8_code (3 : Nat) (Option.some Jvm.ClassFile.FieldType.int)) ∈ lw_all := lw_g (lw_at lw_m5 23 rfl) rfl
theorem q1062 : (Jvm.Cond.methodLink "NoFartherThanAThrow$Reader" (76 : Nat) ({ cls := "NoFartherThanAThrow$World", name := "isStep", desc := "(I)Z" } : Jvm.MethodName)) ∈ lw_all := lw_g (lw_at lw_m5 24 rfl) rfl
theorem q1063 : (Jvm.Cond.methodLink "NoFartherThanAThrow$Reader" (94 : Nat) ({ cls := "NoFartherThanAThrow$World", name := "addThing", desc := "(IIIII)V" } : Jvm.MethodName)) ∈ lw_all := lw_g (lw_at lw_m5 25 rfl) rfl
theorem q1064 : (Jvm.Cond.stringRef "NoFartherThanAThrow$Reader" (98 : Nat) "man") ∈ lw_tbl := lw_at lw_m5 26 rfl
theorem q1065 : (Jvm.Cond.methodLink "NoFartherThanAThrow$Reader" (103 : Nat) ({ cls := "NoFartherThanAThrow$World", name := "addMan", desc := "(I)V" } : Jvm.MethodName)) ∈ lw_all := lw_g (lw_at lw_m5 27 rfl) rfl
theorem q1066 : (Jvm.Cond.methodLink "NoFartherThanAThrow$Reader" (106 : Nat) ({ cls := "NoFartherThanAThrow$Reader", name := "withW", desc := "(I)V" } : Jvm.MethodName)) ∈ lw_all := lw_g (lw_at lw_m5 28 rfl) rfl
theorem q1067 : (Jvm.Cond.privateMethod ({ cls := "NoFartherThanAThrow$Reader", name := "withW", desc := "(I)V" } : Jvm.MethodName)) ∈ lw_tbl := lw_at lw_m5 29 rfl
theorem q1068 : (Jvm.Cond.instanceMethod ({ cls := "NoFartherThanAThrow$Reader", name := "withW", desc := "(I)V" } : Jvm.MethodName)) ∈ lw_all := lw_g (lw_at lw_m5 30 rfl) rfl
theorem q1069 : (Jvm.Cond.code ({ cls := "NoFartherThanAThrow$Reader", name := "withW", desc := "(I)V" } : Jvm.MethodName) prog_11_method_12_code (4 : Nat) (Option.none : Option Jvm.ClassFile.FieldType)) ∈ lw_all := lw_g (lw_at lw_m5 31 rfl) rfl
theorem q1070 : (Jvm.Cond.stringRef "NoFartherThanAThrow$Reader" (131 : Nat) "ind") ∈ lw_tbl := lw_at lw_m5 32 rfl
theorem q1071 : (Jvm.Cond.stringRef "NoFartherThanAThrow$Reader" (136 : Nat) "ant") ∈ lw_tbl := lw_at lw_m5 33 rfl
theorem q1072 : (Jvm.Cond.methodLink "NoFartherThanAThrow$Reader" (141 : Nat) ({ cls := "NoFartherThanAThrow$World", name := "addWant", desc := "(III)V" } : Jvm.MethodName)) ∈ lw_all := lw_g (lw_at lw_m5 34 rfl) rfl
theorem q1073 : (Jvm.Cond.stringRef "NoFartherThanAThrow$Reader" (109 : Nat) "long") ∈ lw_tbl := lw_at lw_m5 35 rfl
theorem q1074 : (Jvm.Cond.methodLink "NoFartherThanAThrow$Reader" (111 : Nat) ({ cls := "NoFartherThanAThrow$World", name := "farthest", desc := "()I" } : Jvm.MethodName)) ∈ lw_all := lw_g (lw_at lw_m5 36 rfl) rfl
theorem q1075 : (Jvm.Cond.methodLink "NoFartherThanAThrow$Reader" (114 : Nat) ({ cls := "java/lang/Math", name := "max", desc := "(II)I" } : Jvm.MethodName)) ∈ lw_all := lw_g (lw_at lw_m5 37 rfl) rfl
theorem q1076 : (Jvm.Cond.stringRef "NoFartherThanAThrow$Reader" (119 : Nat) "river") ∈ lw_tbl := lw_at lw_m5 38 rfl
theorem q1077 : (Jvm.Cond.methodLink "NoFartherThanAThrow$Reader" (121 : Nat) ({ cls := "NoFartherThanAThrow$World", name := "mayFlow", desc := "(II)Z" } : Jvm.MethodName)) ∈ lw_all := lw_g (lw_at lw_m5 39 rfl) rfl
theorem in_X19 : ∀ w ∈ wsX190, w ∈ lw_all := lw_in wsX190 [944, 946, 948] (by decide +kernel) (by decide +kernel)
/-! NoFartherThanAThrow$Faulty -/
set_option maxRecDepth 100000
def RX20 : String := "NoFartherThanAThrow$Faulty"
def TX20 : u_T := fun k => match k with
  | 0 => ("java/lang/Throwable", "cause", "Ljava/lang/Throwable;", false)
  | 1 => ("java/lang/Throwable", "stackTrace", "[Ljava/lang/StackTraceElement;", false)
  | 2 => ("java/lang/Throwable", "suppressedExceptions", "Ljava/util/List;", false)
  | 3 => ("java/lang/Throwable", "detailMessage", "Ljava/lang/String;", false)
  | 4 => ("java/lang/Throwable", "backtrace", "Ljava/lang/Object;", false)
  | 5 => ("java/lang/Throwable", "depth", "I", false)
  | _ => ("NoFartherThanAThrow$Faulty", "place", "I", true)
def tyX20 : Nat → FieldType := fun k => match k with
  | 0 => .object "java/lang/Throwable"
  | 1 => .array (.object "java/lang/StackTraceElement")
  | 2 => .object "java/util/List"
  | 3 => .object "java/lang/String"
  | 4 => .object "java/lang/Object"
  | 5 => .int
  | _ => .int
abbrev wsX200 : List Cond := u_ws RX20 TX20 7
theorem nmX20 : ∀ a, a < 7 → ∀ b, b < 7 → a ≠ b → (TX20 a).2.1 ≠ (TX20 b).2.1 := by decide +kernel
theorem tyX20_ok : ∀ k, k < 7 → parseFieldDescriptor (TX20 k).2.2.1 = some (tyX20 k) := by decide +kernel
abbrev cX20_init : ByteArray := prog_3_method_1_code
def yX20_init : MethodName := ⟨RX20, "<init>", "(I)V"⟩
def dkwX20_init_0 : List UInt8 := [42, 1, 1, 3, 3, 183, 0, 1, 42, 27, 181, 0, 7, 177]
abbrev dktX20_init_0 : List UInt8 := dkwX20_init_0 ++ []
theorem dksX20_init_0 : cX20_init.data.toList.drop 0 = dktX20_init_0 := by decide +kernel
theorem dX20_init_0 : decode cX20_init 0 = .ok (.aload_n 0, 1) := dk_42 (dk_at dksX20_init_0 0 rfl rfl)
theorem dX20_init_1 : decode cX20_init 1 = .ok (.aconst_null, 1) := dk_1 (dk_at dksX20_init_0 1 rfl rfl)
theorem dX20_init_2 : decode cX20_init 2 = .ok (.aconst_null, 1) := dk_1 (dk_at dksX20_init_0 2 rfl rfl)
theorem dX20_init_3 : decode cX20_init 3 = .ok (.iconst 0, 1) := dk_3 (dk_at dksX20_init_0 3 rfl rfl)
theorem dX20_init_4 : decode cX20_init 4 = .ok (.iconst 0, 1) := dk_3 (dk_at dksX20_init_0 4 rfl rfl)
theorem dX20_init_5 : decode cX20_init 5 = .ok (.invokespecial 1, 3) := dk_183 0 1 (dk_at dksX20_init_0 5 rfl rfl)
theorem dX20_init_8 : decode cX20_init 8 = .ok (.aload_n 0, 1) := dk_42 (dk_at dksX20_init_0 8 rfl rfl)
theorem dX20_init_9 : decode cX20_init 9 = .ok (.iload_n 1, 1) := dk_27 (dk_at dksX20_init_0 9 rfl rfl)
theorem dX20_init_10 : decode cX20_init 10 = .ok (.putfield 7, 3) := dk_181 0 7 (dk_at dksX20_init_0 10 rfl rfl)
theorem dX20_init_13 : decode cX20_init 13 = .ok (.return_, 1) := dk_177 (dk_at dksX20_init_0 13 rfl rfl)
theorem q112 : (Jvm.Cond.initialized "NoFartherThanAThrow$Faulty") ∈ lw_all := lw_g (lw_at lw_m1 34 rfl) rfl
theorem q334 : (Jvm.Cond.selects "NoFartherThanAThrow$Faulty" ({ cls := "java/lang/Throwable", name := "fillInStackTrace", desc := "()Ljava/lang/Throwable;" } : Jvm.MethodName) ({ cls := "java/lang/Throwable", name := "fillInStackTrace", desc := "()Ljava/lang/Throwable;" } : Jvm.MethodName)) ∈ lw_all := lw_g (lw_at lw_m2 16 rfl) rfl
theorem q1027 : (Jvm.Cond.instantiable "NoFartherThanAThrow$Faulty" (7 : Nat)) ∈ lw_all := lw_g (lw_at lw_m4 229 rfl) rfl
theorem q1028 : (Jvm.Cond.castable "NoFartherThanAThrow$Faulty" "NoFartherThanAThrow$Faulty") ∈ lw_tbl := lw_at lw_m4 230 rfl
theorem q1029 : (Jvm.Cond.selects "NoFartherThanAThrow$Faulty" ({ cls := "java/lang/Throwable", name := "fillInStackTrace", desc := "(I)Ljava/lang/Throwable;" } : Jvm.MethodName) ({ cls := "java/lang/Throwable", name := "fillInStackTrace", desc := "(I)Ljava/lang/Throwable;" } : Jvm.MethodName)) ∈ lw_all := lw_g (lw_at lw_m4 231 rfl) rfl
theorem q1030 : (Jvm.Cond.lays "NoFartherThanAThrow$Faulty" "java/lang/Throwable" "cause" "Ljava/lang/Throwable;") ∈ lw_all := lw_g (lw_at lw_m4 232 rfl) rfl
theorem q1031 : (Jvm.Cond.lays "NoFartherThanAThrow$Faulty" "java/lang/Throwable" "stackTrace" "[Ljava/lang/StackTraceElement;") ∈ lw_all := lw_g (lw_at lw_m4 233 rfl) rfl
theorem q1032 : (Jvm.Cond.lays "NoFartherThanAThrow$Faulty" "java/lang/Throwable" "suppressedExceptions" "Ljava/util/List;") ∈ lw_all := lw_g (lw_at lw_m4 234 rfl) rfl
theorem q1033 : (Jvm.Cond.lays "NoFartherThanAThrow$Faulty" "java/lang/Throwable" "detailMessage" "Ljava/lang/String;") ∈ lw_all := lw_g (lw_at lw_m4 235 rfl) rfl
theorem q1034 : (Jvm.Cond.lays "NoFartherThanAThrow$Faulty" "java/lang/Throwable" "backtrace" "Ljava/lang/Object;") ∈ lw_all := lw_g (lw_at lw_m4 236 rfl) rfl
theorem q1036 : (Jvm.Cond.instanceMethod ({ cls := "NoFartherThanAThrow$Faulty", name := "<init>", desc := "(I)V" } : Jvm.MethodName)) ∈ lw_all := lw_g (lw_at lw_m4 238 rfl) rfl
theorem q1037 : (Jvm.Cond.code ({ cls := "NoFartherThanAThrow$Faulty", name := "<init>", desc := "(I)V" } : Jvm.MethodName) prog_3_method_1_code (2 : Nat) (Option.none : Option Jvm.ClassFile.FieldType)) ∈ lw_all := lw_g (lw_at lw_m4 239 rfl) rfl
theorem q1038 : (Jvm.Cond.methodLink "NoFartherThanAThrow$Faulty" (1 : Nat) ({ cls := "java/lang/Exception", name := "<init>", desc := "(Ljava/lang/String;Ljava/lang/Throwable;ZZ)V" } : Jvm.MethodName)) ∈ lw_all := lw_g (lw_at lw_m5 0 rfl) rfl
theorem q1039 : (Jvm.Cond.fieldLink "NoFartherThanAThrow$Faulty" (7 : Nat) "NoFartherThanAThrow$Faulty" "place" "I") ∈ lw_all := lw_g (lw_at lw_m5 1 rfl) rfl
theorem q1041 : (Jvm.Cond.laysFinal "NoFartherThanAThrow$Faulty" "NoFartherThanAThrow$Faulty" "place" "I") ∈ lw_all := lw_g (lw_at lw_m5 3 rfl) rfl
theorem q1042 : (Jvm.Cond.soleField "NoFartherThanAThrow$Faulty" "place") ∈ lw_all := lw_g (lw_at lw_m5 4 rfl) rfl
theorem q1043 : (Jvm.Cond.lays "NoFartherThanAThrow$Faulty" "java/lang/Throwable" "depth" "I") ∈ lw_all := lw_g (lw_at lw_m5 5 rfl) rfl
theorem q1044 : (Jvm.Cond.superclass "NoFartherThanAThrow$Faulty" "java/lang/Exception") ∈ lw_all := lw_g (lw_at lw_m5 6 rfl) rfl
theorem in_X20 : ∀ w ∈ wsX200, w ∈ lw_all := lw_in wsX200 [1030, 1031, 1032, 1033, 1034, 1043, 1041] (by decide +kernel) (by decide +kernel)
/-! java/lang/Throwable -/
set_option maxRecDepth 100000
def RJ0 : String := "java/lang/Throwable"
def TJ0 : u_T := fun k => match k with
  | 0 => ("java/lang/Throwable", "cause", "Ljava/lang/Throwable;", false)
  | 1 => ("java/lang/Throwable", "stackTrace", "[Ljava/lang/StackTraceElement;", false)
  | 2 => ("java/lang/Throwable", "suppressedExceptions", "Ljava/util/List;", false)
  | 3 => ("java/lang/Throwable", "detailMessage", "Ljava/lang/String;", false)
  | _ => ("java/lang/Throwable", "backtrace", "Ljava/lang/Object;", false)
def tyJ0 : Nat → FieldType := fun k => match k with
  | 0 => .object "java/lang/Throwable"
  | 1 => .array (.object "java/lang/StackTraceElement")
  | 2 => .object "java/util/List"
  | 3 => .object "java/lang/String"
  | _ => .object "java/lang/Object"
abbrev wsJ00 : List Cond := u_ws RJ0 TJ0 5
theorem nmJ0 : ∀ a, a < 5 → ∀ b, b < 5 → a ≠ b → (TJ0 a).2.1 ≠ (TJ0 b).2.1 := by decide +kernel
theorem tyJ0_ok : ∀ k, k < 5 → parseFieldDescriptor (TJ0 k).2.2.1 = some (tyJ0 k) := by decide +kernel
abbrev cJ0_init : ByteArray := prog_35_method_2_code
def yJ0_init : MethodName := ⟨RJ0, "<init>", "(Ljava/lang/String;)V"⟩
def dkwJ0_init_1 : List UInt8 := [182, 0, 27, 87, 42, 43, 181, 0, 31, 177]
abbrev dktJ0_init_1 : List UInt8 := dkwJ0_init_1 ++ []
def dkwJ0_init_0 : List UInt8 := [42, 183, 0, 1, 42, 42, 181, 0, 7, 42, 178, 0, 13, 181, 0, 17, 42, 178, 0, 20, 181, 0, 24, 42]
abbrev dktJ0_init_0 : List UInt8 := dkwJ0_init_0 ++ dktJ0_init_1
theorem dksJ0_init_0 : cJ0_init.data.toList.drop 0 = dktJ0_init_0 := by decide +kernel
theorem dksJ0_init_1 : cJ0_init.data.toList.drop 24 = dktJ0_init_1 := dk_seg dksJ0_init_0 24 rfl rfl
theorem dJ0_init_0 : decode cJ0_init 0 = .ok (.aload_n 0, 1) := dk_42 (dk_at dksJ0_init_0 0 rfl rfl)
theorem dJ0_init_1 : decode cJ0_init 1 = .ok (.invokespecial 1, 3) := dk_183 0 1 (dk_at dksJ0_init_0 1 rfl rfl)
theorem dJ0_init_4 : decode cJ0_init 4 = .ok (.aload_n 0, 1) := dk_42 (dk_at dksJ0_init_0 4 rfl rfl)
theorem dJ0_init_5 : decode cJ0_init 5 = .ok (.aload_n 0, 1) := dk_42 (dk_at dksJ0_init_0 5 rfl rfl)
theorem dJ0_init_6 : decode cJ0_init 6 = .ok (.putfield 7, 3) := dk_181 0 7 (dk_at dksJ0_init_0 6 rfl rfl)
theorem dJ0_init_9 : decode cJ0_init 9 = .ok (.aload_n 0, 1) := dk_42 (dk_at dksJ0_init_0 9 rfl rfl)
theorem dJ0_init_10 : decode cJ0_init 10 = .ok (.getstatic 13, 3) := dk_178 0 13 (dk_at dksJ0_init_0 10 rfl rfl)
theorem dJ0_init_13 : decode cJ0_init 13 = .ok (.putfield 17, 3) := dk_181 0 17 (dk_at dksJ0_init_0 13 rfl rfl)
theorem dJ0_init_16 : decode cJ0_init 16 = .ok (.aload_n 0, 1) := dk_42 (dk_at dksJ0_init_0 16 rfl rfl)
theorem dJ0_init_17 : decode cJ0_init 17 = .ok (.getstatic 20, 3) := dk_178 0 20 (dk_at dksJ0_init_0 17 rfl rfl)
theorem dJ0_init_20 : decode cJ0_init 20 = .ok (.putfield 24, 3) := dk_181 0 24 (dk_at dksJ0_init_0 20 rfl rfl)
theorem dJ0_init_23 : decode cJ0_init 23 = .ok (.aload_n 0, 1) := dk_42 (dk_at dksJ0_init_0 23 rfl rfl)
theorem dJ0_init_24 : decode cJ0_init 24 = .ok (.invokevirtual 27, 3) := dk_182 0 27 (dk_at dksJ0_init_1 0 rfl rfl)
theorem dJ0_init_27 : decode cJ0_init 27 = .ok (.pop, 1) := dk_87 (dk_at dksJ0_init_1 3 rfl rfl)
theorem dJ0_init_28 : decode cJ0_init 28 = .ok (.aload_n 0, 1) := dk_42 (dk_at dksJ0_init_1 4 rfl rfl)
theorem dJ0_init_29 : decode cJ0_init 29 = .ok (.aload_n 1, 1) := dk_43 (dk_at dksJ0_init_1 5 rfl rfl)
theorem dJ0_init_30 : decode cJ0_init 30 = .ok (.putfield 31, 3) := dk_181 0 31 (dk_at dksJ0_init_1 6 rfl rfl)
theorem dJ0_init_33 : decode cJ0_init 33 = .ok (.return_, 1) := dk_177 (dk_at dksJ0_init_1 9 rfl rfl)
abbrev cJ0_init_2 : ByteArray := prog_35_method_1_code
def yJ0_init_2 : MethodName := ⟨RJ0, "<init>", "()V"⟩
def dkwJ0_init_2_1 : List UInt8 := [182, 0, 27, 87, 177]
abbrev dktJ0_init_2_1 : List UInt8 := dkwJ0_init_2_1 ++ []
def dkwJ0_init_2_0 : List UInt8 := [42, 183, 0, 1, 42, 42, 181, 0, 7, 42, 178, 0, 13, 181, 0, 17, 42, 178, 0, 20, 181, 0, 24, 42]
abbrev dktJ0_init_2_0 : List UInt8 := dkwJ0_init_2_0 ++ dktJ0_init_2_1
theorem dksJ0_init_2_0 : cJ0_init_2.data.toList.drop 0 = dktJ0_init_2_0 := by decide +kernel
theorem dksJ0_init_2_1 : cJ0_init_2.data.toList.drop 24 = dktJ0_init_2_1 := dk_seg dksJ0_init_2_0 24 rfl rfl
theorem dJ0_init_2_0 : decode cJ0_init_2 0 = .ok (.aload_n 0, 1) := dk_42 (dk_at dksJ0_init_2_0 0 rfl rfl)
theorem dJ0_init_2_1 : decode cJ0_init_2 1 = .ok (.invokespecial 1, 3) := dk_183 0 1 (dk_at dksJ0_init_2_0 1 rfl rfl)
theorem dJ0_init_2_4 : decode cJ0_init_2 4 = .ok (.aload_n 0, 1) := dk_42 (dk_at dksJ0_init_2_0 4 rfl rfl)
theorem dJ0_init_2_5 : decode cJ0_init_2 5 = .ok (.aload_n 0, 1) := dk_42 (dk_at dksJ0_init_2_0 5 rfl rfl)
theorem dJ0_init_2_6 : decode cJ0_init_2 6 = .ok (.putfield 7, 3) := dk_181 0 7 (dk_at dksJ0_init_2_0 6 rfl rfl)
theorem dJ0_init_2_9 : decode cJ0_init_2 9 = .ok (.aload_n 0, 1) := dk_42 (dk_at dksJ0_init_2_0 9 rfl rfl)
theorem dJ0_init_2_10 : decode cJ0_init_2 10 = .ok (.getstatic 13, 3) := dk_178 0 13 (dk_at dksJ0_init_2_0 10 rfl rfl)
theorem dJ0_init_2_13 : decode cJ0_init_2 13 = .ok (.putfield 17, 3) := dk_181 0 17 (dk_at dksJ0_init_2_0 13 rfl rfl)
theorem dJ0_init_2_16 : decode cJ0_init_2 16 = .ok (.aload_n 0, 1) := dk_42 (dk_at dksJ0_init_2_0 16 rfl rfl)
theorem dJ0_init_2_17 : decode cJ0_init_2 17 = .ok (.getstatic 20, 3) := dk_178 0 20 (dk_at dksJ0_init_2_0 17 rfl rfl)
theorem dJ0_init_2_20 : decode cJ0_init_2 20 = .ok (.putfield 24, 3) := dk_181 0 24 (dk_at dksJ0_init_2_0 20 rfl rfl)
theorem dJ0_init_2_23 : decode cJ0_init_2 23 = .ok (.aload_n 0, 1) := dk_42 (dk_at dksJ0_init_2_0 23 rfl rfl)
theorem dJ0_init_2_24 : decode cJ0_init_2 24 = .ok (.invokevirtual 27, 3) := dk_182 0 27 (dk_at dksJ0_init_2_1 0 rfl rfl)
theorem dJ0_init_2_27 : decode cJ0_init_2 27 = .ok (.pop, 1) := dk_87 (dk_at dksJ0_init_2_1 3 rfl rfl)
theorem dJ0_init_2_28 : decode cJ0_init_2 28 = .ok (.return_, 1) := dk_177 (dk_at dksJ0_init_2_1 4 rfl rfl)
abbrev cJ0_init_3 : ByteArray := prog_35_method_5_code
def yJ0_init_3 : MethodName := ⟨RJ0, "<init>", "(Ljava/lang/String;Ljava/lang/Throwable;ZZ)V"⟩
def dkwJ0_init_3_2 : List UInt8 := [44, 181, 0, 7, 29, 154, 0, 8, 42, 1, 181, 0, 24, 177]
abbrev dktJ0_init_3_2 : List UInt8 := dkwJ0_init_3_2 ++ []
def dkwJ0_init_3_1 : List UInt8 := [21, 4, 153, 0, 11, 42, 182, 0, 27, 87, 167, 0, 8, 42, 1, 181, 0, 17, 42, 43, 181, 0, 31, 42]
abbrev dktJ0_init_3_1 : List UInt8 := dkwJ0_init_3_1 ++ dktJ0_init_3_2
def dkwJ0_init_3_0 : List UInt8 := [42, 183, 0, 1, 42, 42, 181, 0, 7, 42, 178, 0, 13, 181, 0, 17, 42, 178, 0, 20, 181, 0, 24]
abbrev dktJ0_init_3_0 : List UInt8 := dkwJ0_init_3_0 ++ dktJ0_init_3_1
theorem dksJ0_init_3_0 : cJ0_init_3.data.toList.drop 0 = dktJ0_init_3_0 := by decide +kernel
theorem dksJ0_init_3_1 : cJ0_init_3.data.toList.drop 23 = dktJ0_init_3_1 := dk_seg dksJ0_init_3_0 23 rfl rfl
theorem dksJ0_init_3_2 : cJ0_init_3.data.toList.drop 47 = dktJ0_init_3_2 := dk_seg dksJ0_init_3_1 24 rfl rfl
theorem dJ0_init_3_0 : decode cJ0_init_3 0 = .ok (.aload_n 0, 1) := dk_42 (dk_at dksJ0_init_3_0 0 rfl rfl)
theorem dJ0_init_3_1 : decode cJ0_init_3 1 = .ok (.invokespecial 1, 3) := dk_183 0 1 (dk_at dksJ0_init_3_0 1 rfl rfl)
theorem dJ0_init_3_4 : decode cJ0_init_3 4 = .ok (.aload_n 0, 1) := dk_42 (dk_at dksJ0_init_3_0 4 rfl rfl)
theorem dJ0_init_3_5 : decode cJ0_init_3 5 = .ok (.aload_n 0, 1) := dk_42 (dk_at dksJ0_init_3_0 5 rfl rfl)
theorem dJ0_init_3_6 : decode cJ0_init_3 6 = .ok (.putfield 7, 3) := dk_181 0 7 (dk_at dksJ0_init_3_0 6 rfl rfl)
theorem dJ0_init_3_9 : decode cJ0_init_3 9 = .ok (.aload_n 0, 1) := dk_42 (dk_at dksJ0_init_3_0 9 rfl rfl)
theorem dJ0_init_3_10 : decode cJ0_init_3 10 = .ok (.getstatic 13, 3) := dk_178 0 13 (dk_at dksJ0_init_3_0 10 rfl rfl)
theorem dJ0_init_3_13 : decode cJ0_init_3 13 = .ok (.putfield 17, 3) := dk_181 0 17 (dk_at dksJ0_init_3_0 13 rfl rfl)
theorem dJ0_init_3_16 : decode cJ0_init_3 16 = .ok (.aload_n 0, 1) := dk_42 (dk_at dksJ0_init_3_0 16 rfl rfl)
theorem dJ0_init_3_17 : decode cJ0_init_3 17 = .ok (.getstatic 20, 3) := dk_178 0 20 (dk_at dksJ0_init_3_0 17 rfl rfl)
theorem dJ0_init_3_20 : decode cJ0_init_3 20 = .ok (.putfield 24, 3) := dk_181 0 24 (dk_at dksJ0_init_3_0 20 rfl rfl)
theorem dJ0_init_3_23 : decode cJ0_init_3 23 = .ok (.iload 4, 2) := dk_21 4 (dk_at dksJ0_init_3_1 0 rfl rfl)
theorem dJ0_init_3_25 : decode cJ0_init_3 25 = .ok (.ifCond .eq 11, 3) := dk_153 0 11 (dk_at dksJ0_init_3_1 2 rfl rfl)
theorem dJ0_init_3_28 : decode cJ0_init_3 28 = .ok (.aload_n 0, 1) := dk_42 (dk_at dksJ0_init_3_1 5 rfl rfl)
theorem dJ0_init_3_29 : decode cJ0_init_3 29 = .ok (.invokevirtual 27, 3) := dk_182 0 27 (dk_at dksJ0_init_3_1 6 rfl rfl)
theorem dJ0_init_3_32 : decode cJ0_init_3 32 = .ok (.pop, 1) := dk_87 (dk_at dksJ0_init_3_1 9 rfl rfl)
theorem dJ0_init_3_33 : decode cJ0_init_3 33 = .ok (.goto 8, 3) := dk_167 0 8 (dk_at dksJ0_init_3_1 10 rfl rfl)
theorem dJ0_init_3_36 : decode cJ0_init_3 36 = .ok (.aload_n 0, 1) := dk_42 (dk_at dksJ0_init_3_1 13 rfl rfl)
theorem dJ0_init_3_37 : decode cJ0_init_3 37 = .ok (.aconst_null, 1) := dk_1 (dk_at dksJ0_init_3_1 14 rfl rfl)
theorem dJ0_init_3_38 : decode cJ0_init_3 38 = .ok (.putfield 17, 3) := dk_181 0 17 (dk_at dksJ0_init_3_1 15 rfl rfl)
theorem dJ0_init_3_41 : decode cJ0_init_3 41 = .ok (.aload_n 0, 1) := dk_42 (dk_at dksJ0_init_3_1 18 rfl rfl)
theorem dJ0_init_3_42 : decode cJ0_init_3 42 = .ok (.aload_n 1, 1) := dk_43 (dk_at dksJ0_init_3_1 19 rfl rfl)
theorem dJ0_init_3_43 : decode cJ0_init_3 43 = .ok (.putfield 31, 3) := dk_181 0 31 (dk_at dksJ0_init_3_1 20 rfl rfl)
theorem dJ0_init_3_46 : decode cJ0_init_3 46 = .ok (.aload_n 0, 1) := dk_42 (dk_at dksJ0_init_3_1 23 rfl rfl)
theorem dJ0_init_3_47 : decode cJ0_init_3 47 = .ok (.aload_n 2, 1) := dk_44 (dk_at dksJ0_init_3_2 0 rfl rfl)
theorem dJ0_init_3_48 : decode cJ0_init_3 48 = .ok (.putfield 7, 3) := dk_181 0 7 (dk_at dksJ0_init_3_2 1 rfl rfl)
theorem dJ0_init_3_51 : decode cJ0_init_3 51 = .ok (.iload_n 3, 1) := dk_29 (dk_at dksJ0_init_3_2 4 rfl rfl)
theorem dJ0_init_3_52 : decode cJ0_init_3 52 = .ok (.ifCond .ne 8, 3) := dk_154 0 8 (dk_at dksJ0_init_3_2 5 rfl rfl)
theorem dJ0_init_3_55 : decode cJ0_init_3 55 = .ok (.aload_n 0, 1) := dk_42 (dk_at dksJ0_init_3_2 8 rfl rfl)
theorem dJ0_init_3_56 : decode cJ0_init_3 56 = .ok (.aconst_null, 1) := dk_1 (dk_at dksJ0_init_3_2 9 rfl rfl)
theorem dJ0_init_3_57 : decode cJ0_init_3 57 = .ok (.putfield 24, 3) := dk_181 0 24 (dk_at dksJ0_init_3_2 10 rfl rfl)
theorem dJ0_init_3_60 : decode cJ0_init_3 60 = .ok (.return_, 1) := dk_177 (dk_at dksJ0_init_3_2 13 rfl rfl)
theorem q85 : (Jvm.Cond.initialized "java/lang/Throwable") ∈ lw_all := lw_g (lw_at lw_m1 7 rfl) rfl
theorem q324 : (Jvm.Cond.instanceMethod ({ cls := "java/lang/Throwable", name := "<init>", desc := "(Ljava/lang/String;)V" } : Jvm.MethodName)) ∈ lw_all := lw_g (lw_at lw_m2 6 rfl) rfl
theorem q325 : (Jvm.Cond.code ({ cls := "java/lang/Throwable", name := "<init>", desc := "(Ljava/lang/String;)V" } : Jvm.MethodName) prog_35_method_2_code (2 : Nat) (Option.none : Option Jvm.ClassFile.FieldType)) ∈ lw_all := lw_g (lw_at lw_m2 7 rfl) rfl
theorem q326 : (Jvm.Cond.methodLink "java/lang/Throwable" (1 : Nat) ({ cls := "java/lang/Object", name := "<init>", desc := "()V" } : Jvm.MethodName)) ∈ lw_all := lw_g (lw_at lw_m2 8 rfl) rfl
theorem q327 : (Jvm.Cond.fieldLink "java/lang/Throwable" (13 : Nat) "java/lang/Throwable" "UNASSIGNED_STACK" "[Ljava/lang/StackTraceElement;") ∈ lw_all := lw_g (lw_at lw_m2 9 rfl) rfl
theorem q328 : (Jvm.Cond.laysStatic "java/lang/Throwable" "UNASSIGNED_STACK" "[Ljava/lang/StackTraceElement;") ∈ lw_tbl := lw_at lw_m2 10 rfl
theorem q329 : (Jvm.Cond.fieldLink "java/lang/Throwable" (20 : Nat) "java/lang/Throwable" "SUPPRESSED_SENTINEL" "Ljava/util/List;") ∈ lw_all := lw_g (lw_at lw_m2 11 rfl) rfl
theorem q330 : (Jvm.Cond.laysStatic "java/lang/Throwable" "SUPPRESSED_SENTINEL" "Ljava/util/List;") ∈ lw_tbl := lw_at lw_m2 12 rfl
theorem q331 : (Jvm.Cond.methodLink "java/lang/Throwable" (27 : Nat) ({ cls := "java/lang/Throwable", name := "fillInStackTrace", desc := "()Ljava/lang/Throwable;" } : Jvm.MethodName)) ∈ lw_all := lw_g (lw_at lw_m2 13 rfl) rfl
theorem q332 : (Jvm.Cond.instanceMethod ({ cls := "java/lang/Throwable", name := "fillInStackTrace", desc := "()Ljava/lang/Throwable;" } : Jvm.MethodName)) ∈ lw_all := lw_g (lw_at lw_m2 14 rfl) rfl
theorem q333 : (Jvm.Cond.sameMethod "java/lang/Throwable" "java/lang/Throwable" "fillInStackTrace" "()Ljava/lang/Throwable;") ∈ lw_all := lw_g (lw_at lw_m2 15 rfl) rfl
theorem q339 : (Jvm.Cond.codeSync ({ cls := "java/lang/Throwable", name := "fillInStackTrace", desc := "()Ljava/lang/Throwable;" } : Jvm.MethodName) prog_35_method_18_code (1 : Nat) (Option.some (Jvm.ClassFile.FieldType.object "java/lang/Throwable"))) ∈ lw_all := lw_g (lw_at lw_m2 21 rfl) rfl
theorem q340 : (Jvm.Cond.methodLink "java/lang/Throwable" (202 : Nat) ({ cls := "java/lang/Throwable", name := "fillInStackTrace", desc := "(I)Ljava/lang/Throwable;" } : Jvm.MethodName)) ∈ lw_all := lw_g (lw_at lw_m2 22 rfl) rfl
theorem q341 : (Jvm.Cond.privateMethod ({ cls := "java/lang/Throwable", name := "fillInStackTrace", desc := "(I)Ljava/lang/Throwable;" } : Jvm.MethodName)) ∈ lw_tbl := lw_at lw_m2 23 rfl
theorem q342 : (Jvm.Cond.instanceMethod ({ cls := "java/lang/Throwable", name := "fillInStackTrace", desc := "(I)Ljava/lang/Throwable;" } : Jvm.MethodName)) ∈ lw_all := lw_g (lw_at lw_m2 24 rfl) rfl
theorem q343 : (Jvm.Cond.instantiable "java/lang/Throwable" (6 : Nat)) ∈ lw_all := lw_g (lw_at lw_m2 25 rfl) rfl
theorem q344 : (Jvm.Cond.native ({ cls := "java/lang/Throwable", name := "fillInStackTrace", desc := "(I)Ljava/lang/Throwable;" } : Jvm.MethodName)) ∈ lw_all := lw_g (lw_at lw_m2 26 rfl) rfl
theorem q345 : (Jvm.Cond.fieldLink "java/lang/Throwable" (198 : Nat) "java/lang/Throwable" "backtrace" "Ljava/lang/Object;") ∈ lw_all := lw_g (lw_at lw_m2 27 rfl) rfl
theorem q346 : (Jvm.Cond.fieldLink "java/lang/Throwable" (31 : Nat) "java/lang/Throwable" "detailMessage" "Ljava/lang/String;") ∈ lw_all := lw_g (lw_at lw_m2 28 rfl) rfl
theorem q347 : (Jvm.Cond.fieldLink "java/lang/Throwable" (7 : Nat) "java/lang/Throwable" "cause" "Ljava/lang/Throwable;") ∈ lw_all := lw_g (lw_at lw_m2 29 rfl) rfl
theorem q348 : (Jvm.Cond.fieldLink "java/lang/Throwable" (17 : Nat) "java/lang/Throwable" "stackTrace" "[Ljava/lang/StackTraceElement;") ∈ lw_all := lw_g (lw_at lw_m2 30 rfl) rfl
theorem q349 : (Jvm.Cond.fieldLink "java/lang/Throwable" (24 : Nat) "java/lang/Throwable" "suppressedExceptions" "Ljava/util/List;") ∈ lw_all := lw_g (lw_at lw_m2 31 rfl) rfl
theorem q351 : (Jvm.Cond.soleField "java/lang/Throwable" "backtrace") ∈ lw_all := lw_g (lw_at lw_m2 33 rfl) rfl
theorem q353 : (Jvm.Cond.soleField "java/lang/Throwable" "detailMessage") ∈ lw_all := lw_g (lw_at lw_m2 35 rfl) rfl
theorem q355 : (Jvm.Cond.soleField "java/lang/Throwable" "cause") ∈ lw_all := lw_g (lw_at lw_m2 37 rfl) rfl
theorem q357 : (Jvm.Cond.soleField "java/lang/Throwable" "stackTrace") ∈ lw_all := lw_g (lw_at lw_m2 39 rfl) rfl
theorem q359 : (Jvm.Cond.soleField "java/lang/Throwable" "depth") ∈ lw_all := lw_g (lw_at lw_m2 41 rfl) rfl
theorem q361 : (Jvm.Cond.soleField "java/lang/Throwable" "suppressedExceptions") ∈ lw_all := lw_g (lw_at lw_m2 43 rfl) rfl
theorem q370 : (Jvm.Cond.declares ({ cls := "java/lang/Throwable", name := "<init>", desc := "()V" } : Jvm.MethodName)) ∈ lw_tbl := lw_at lw_m2 52 rfl
theorem q371 : (Jvm.Cond.declares ({ cls := "java/lang/Throwable", name := "<init>", desc := "(Ljava/lang/String;)V" } : Jvm.MethodName)) ∈ lw_tbl := lw_at lw_m2 53 rfl
theorem q373 : (Jvm.Cond.lays "java/lang/Throwable" "java/lang/Throwable" "cause" "Ljava/lang/Throwable;") ∈ lw_all := lw_g (lw_at lw_m2 55 rfl) rfl
theorem q374 : (Jvm.Cond.lays "java/lang/Throwable" "java/lang/Throwable" "stackTrace" "[Ljava/lang/StackTraceElement;") ∈ lw_all := lw_g (lw_at lw_m2 56 rfl) rfl
theorem q375 : (Jvm.Cond.lays "java/lang/Throwable" "java/lang/Throwable" "suppressedExceptions" "Ljava/util/List;") ∈ lw_all := lw_g (lw_at lw_m2 57 rfl) rfl
theorem q376 : (Jvm.Cond.lays "java/lang/Throwable" "java/lang/Throwable" "detailMessage" "Ljava/lang/String;") ∈ lw_all := lw_g (lw_at lw_m2 58 rfl) rfl
theorem q377 : (Jvm.Cond.lays "java/lang/Throwable" "java/lang/Throwable" "backtrace" "Ljava/lang/Object;") ∈ lw_all := lw_g (lw_at lw_m2 59 rfl) rfl
theorem q378 : (Jvm.Cond.fieldLink "java/lang/Throwable" (198 : Nat) "java/lang/Throwable" "backtrace" "Ljava/lang/Object;") ∈ lw_all := lw_g (lw_at lw_m2 60 rfl) rfl
theorem q379 : (Jvm.Cond.superclass "java/lang/Throwable" "java/lang/Object") ∈ lw_all := lw_g (lw_at lw_m2 61 rfl) rfl
theorem q380 : (Jvm.Cond.instanceMethod ({ cls := "java/lang/Throwable", name := "<init>", desc := "()V" } : Jvm.MethodName)) ∈ lw_all := lw_g (lw_at lw_m2 62 rfl) rfl
theorem q381 : (Jvm.Cond.code ({ cls := "java/lang/Throwable", name := "<init>", desc := "()V" } : Jvm.MethodName) prog_35_method_1_code (1 : Nat) (Option.none : Option Jvm.ClassFile.FieldType)) ∈ lw_all := lw_g (lw_at lw_m2 63 rfl) rfl
theorem q403 : (Jvm.Cond.instanceMethod ({ cls := "java/lang/Throwable", name := "<init>", desc := "(Ljava/lang/String;Ljava/lang/Throwable;ZZ)V" } : Jvm.MethodName)) ∈ lw_all := lw_g (lw_at lw_m2 85 rfl) rfl
theorem q404 : (Jvm.Cond.code ({ cls := "java/lang/Throwable", name := "<init>", desc := "(Ljava/lang/String;Ljava/lang/Throwable;ZZ)V" } : Jvm.MethodName) prog_35_method_5_code (5 : Nat) (Option.none : Option Jvm.ClassFile.FieldType)) ∈ lw_all := lw_g (lw_at lw_m2 86 rfl) rfl
theorem q1931 : (Jvm.Cond.sameMethod "java/lang/Throwable" "java/lang/Throwable" "fillInStackTrace" "(I)Ljava/lang/Throwable;") ∈ lw_all := lw_g (lw_at lw_m8 173 rfl) rfl
theorem in_J0 : ∀ w ∈ wsJ00, w ∈ lw_all := lw_in wsJ00 [373, 374, 375, 376, 377] (by decide +kernel) (by decide +kernel)
/-! java/lang/Exception -/
set_option maxRecDepth 100000
def RJ1 : String := "java/lang/Exception"
abbrev cJ1_init : ByteArray := prog_25_method_2_code
def yJ1_init : MethodName := ⟨RJ1, "<init>", "(Ljava/lang/String;)V"⟩
def dkwJ1_init_0 : List UInt8 := [42, 43, 183, 0, 7, 177]
abbrev dktJ1_init_0 : List UInt8 := dkwJ1_init_0 ++ []
theorem dksJ1_init_0 : cJ1_init.data.toList.drop 0 = dktJ1_init_0 := by decide +kernel
theorem dJ1_init_0 : decode cJ1_init 0 = .ok (.aload_n 0, 1) := dk_42 (dk_at dksJ1_init_0 0 rfl rfl)
theorem dJ1_init_1 : decode cJ1_init 1 = .ok (.aload_n 1, 1) := dk_43 (dk_at dksJ1_init_0 1 rfl rfl)
theorem dJ1_init_2 : decode cJ1_init 2 = .ok (.invokespecial 7, 3) := dk_183 0 7 (dk_at dksJ1_init_0 2 rfl rfl)
theorem dJ1_init_5 : decode cJ1_init 5 = .ok (.return_, 1) := dk_177 (dk_at dksJ1_init_0 5 rfl rfl)
abbrev cJ1_init_2 : ByteArray := prog_25_method_5_code
def yJ1_init_2 : MethodName := ⟨RJ1, "<init>", "(Ljava/lang/String;Ljava/lang/Throwable;ZZ)V"⟩
def dkwJ1_init_2_0 : List UInt8 := [42, 43, 44, 29, 21, 4, 183, 0, 16, 177]
abbrev dktJ1_init_2_0 : List UInt8 := dkwJ1_init_2_0 ++ []
theorem dksJ1_init_2_0 : cJ1_init_2.data.toList.drop 0 = dktJ1_init_2_0 := by decide +kernel
theorem dJ1_init_2_0 : decode cJ1_init_2 0 = .ok (.aload_n 0, 1) := dk_42 (dk_at dksJ1_init_2_0 0 rfl rfl)
theorem dJ1_init_2_1 : decode cJ1_init_2 1 = .ok (.aload_n 1, 1) := dk_43 (dk_at dksJ1_init_2_0 1 rfl rfl)
theorem dJ1_init_2_2 : decode cJ1_init_2 2 = .ok (.aload_n 2, 1) := dk_44 (dk_at dksJ1_init_2_0 2 rfl rfl)
theorem dJ1_init_2_3 : decode cJ1_init_2 3 = .ok (.iload_n 3, 1) := dk_29 (dk_at dksJ1_init_2_0 3 rfl rfl)
theorem dJ1_init_2_4 : decode cJ1_init_2 4 = .ok (.iload 4, 2) := dk_21 4 (dk_at dksJ1_init_2_0 4 rfl rfl)
theorem dJ1_init_2_6 : decode cJ1_init_2 6 = .ok (.invokespecial 16, 3) := dk_183 0 16 (dk_at dksJ1_init_2_0 6 rfl rfl)
theorem dJ1_init_2_9 : decode cJ1_init_2 9 = .ok (.return_, 1) := dk_177 (dk_at dksJ1_init_2_0 9 rfl rfl)
theorem q86 : (Jvm.Cond.initialized "java/lang/Exception") ∈ lw_all := lw_g (lw_at lw_m1 8 rfl) rfl
theorem q321 : (Jvm.Cond.instanceMethod ({ cls := "java/lang/Exception", name := "<init>", desc := "(Ljava/lang/String;)V" } : Jvm.MethodName)) ∈ lw_all := lw_g (lw_at lw_m2 3 rfl) rfl
theorem q322 : (Jvm.Cond.code ({ cls := "java/lang/Exception", name := "<init>", desc := "(Ljava/lang/String;)V" } : Jvm.MethodName) prog_25_method_2_code (2 : Nat) (Option.none : Option Jvm.ClassFile.FieldType)) ∈ lw_all := lw_g (lw_at lw_m2 4 rfl) rfl
theorem q323 : (Jvm.Cond.methodLink "java/lang/Exception" (7 : Nat) ({ cls := "java/lang/Throwable", name := "<init>", desc := "(Ljava/lang/String;)V" } : Jvm.MethodName)) ∈ lw_all := lw_g (lw_at lw_m2 5 rfl) rfl
theorem q368 : (Jvm.Cond.declares ({ cls := "java/lang/Exception", name := "<init>", desc := "()V" } : Jvm.MethodName)) ∈ lw_tbl := lw_at lw_m2 50 rfl
theorem q369 : (Jvm.Cond.declares ({ cls := "java/lang/Exception", name := "<init>", desc := "(Ljava/lang/String;)V" } : Jvm.MethodName)) ∈ lw_tbl := lw_at lw_m2 51 rfl
theorem q400 : (Jvm.Cond.instanceMethod ({ cls := "java/lang/Exception", name := "<init>", desc := "(Ljava/lang/String;Ljava/lang/Throwable;ZZ)V" } : Jvm.MethodName)) ∈ lw_all := lw_g (lw_at lw_m2 82 rfl) rfl
theorem q401 : (Jvm.Cond.code ({ cls := "java/lang/Exception", name := "<init>", desc := "(Ljava/lang/String;Ljava/lang/Throwable;ZZ)V" } : Jvm.MethodName) prog_25_method_5_code (5 : Nat) (Option.none : Option Jvm.ClassFile.FieldType)) ∈ lw_all := lw_g (lw_at lw_m2 83 rfl) rfl
theorem q402 : (Jvm.Cond.methodLink "java/lang/Exception" (16 : Nat) ({ cls := "java/lang/Throwable", name := "<init>", desc := "(Ljava/lang/String;Ljava/lang/Throwable;ZZ)V" } : Jvm.MethodName)) ∈ lw_all := lw_g (lw_at lw_m2 84 rfl) rfl
/-! java/lang/RuntimeException -/
set_option maxRecDepth 100000
def RJ2 : String := "java/lang/RuntimeException"
abbrev cJ2_init : ByteArray := prog_30_method_2_code
def yJ2_init : MethodName := ⟨RJ2, "<init>", "(Ljava/lang/String;)V"⟩
def dkwJ2_init_0 : List UInt8 := [42, 43, 183, 0, 7, 177]
abbrev dktJ2_init_0 : List UInt8 := dkwJ2_init_0 ++ []
theorem dksJ2_init_0 : cJ2_init.data.toList.drop 0 = dktJ2_init_0 := by decide +kernel
theorem dJ2_init_0 : decode cJ2_init 0 = .ok (.aload_n 0, 1) := dk_42 (dk_at dksJ2_init_0 0 rfl rfl)
theorem dJ2_init_1 : decode cJ2_init 1 = .ok (.aload_n 1, 1) := dk_43 (dk_at dksJ2_init_0 1 rfl rfl)
theorem dJ2_init_2 : decode cJ2_init 2 = .ok (.invokespecial 7, 3) := dk_183 0 7 (dk_at dksJ2_init_0 2 rfl rfl)
theorem dJ2_init_5 : decode cJ2_init 5 = .ok (.return_, 1) := dk_177 (dk_at dksJ2_init_0 5 rfl rfl)
theorem q87 : (Jvm.Cond.initialized "java/lang/RuntimeException") ∈ lw_all := lw_g (lw_at lw_m1 9 rfl) rfl
theorem q318 : (Jvm.Cond.instanceMethod ({ cls := "java/lang/RuntimeException", name := "<init>", desc := "(Ljava/lang/String;)V" } : Jvm.MethodName)) ∈ lw_all := lw_g (lw_at lw_m2 0 rfl) rfl
theorem q319 : (Jvm.Cond.code ({ cls := "java/lang/RuntimeException", name := "<init>", desc := "(Ljava/lang/String;)V" } : Jvm.MethodName) prog_30_method_2_code (2 : Nat) (Option.none : Option Jvm.ClassFile.FieldType)) ∈ lw_all := lw_g (lw_at lw_m2 1 rfl) rfl
theorem q320 : (Jvm.Cond.methodLink "java/lang/RuntimeException" (7 : Nat) ({ cls := "java/lang/Exception", name := "<init>", desc := "(Ljava/lang/String;)V" } : Jvm.MethodName)) ∈ lw_all := lw_g (lw_at lw_m2 2 rfl) rfl
theorem q366 : (Jvm.Cond.declares ({ cls := "java/lang/RuntimeException", name := "<init>", desc := "()V" } : Jvm.MethodName)) ∈ lw_tbl := lw_at lw_m2 48 rfl
theorem q367 : (Jvm.Cond.declares ({ cls := "java/lang/RuntimeException", name := "<init>", desc := "(Ljava/lang/String;)V" } : Jvm.MethodName)) ∈ lw_tbl := lw_at lw_m2 49 rfl
/-! java/lang/IndexOutOfBoundsException -/
set_option maxRecDepth 100000
def RJ3 : String := "java/lang/IndexOutOfBoundsException"
abbrev cJ3_init : ByteArray := prog_26_method_2_code
def yJ3_init : MethodName := ⟨RJ3, "<init>", "(Ljava/lang/String;)V"⟩
def dkwJ3_init_0 : List UInt8 := [42, 43, 183, 0, 7, 177]
abbrev dktJ3_init_0 : List UInt8 := dkwJ3_init_0 ++ []
theorem dksJ3_init_0 : cJ3_init.data.toList.drop 0 = dktJ3_init_0 := by decide +kernel
theorem dJ3_init_0 : decode cJ3_init 0 = .ok (.aload_n 0, 1) := dk_42 (dk_at dksJ3_init_0 0 rfl rfl)
theorem dJ3_init_1 : decode cJ3_init 1 = .ok (.aload_n 1, 1) := dk_43 (dk_at dksJ3_init_0 1 rfl rfl)
theorem dJ3_init_2 : decode cJ3_init 2 = .ok (.invokespecial 7, 3) := dk_183 0 7 (dk_at dksJ3_init_0 2 rfl rfl)
theorem dJ3_init_5 : decode cJ3_init 5 = .ok (.return_, 1) := dk_177 (dk_at dksJ3_init_0 5 rfl rfl)
theorem q88 : (Jvm.Cond.initialized "java/lang/IndexOutOfBoundsException") ∈ lw_all := lw_g (lw_at lw_m1 10 rfl) rfl
theorem q315 : (Jvm.Cond.instanceMethod ({ cls := "java/lang/IndexOutOfBoundsException", name := "<init>", desc := "(Ljava/lang/String;)V" } : Jvm.MethodName)) ∈ lw_all := lw_g (lw_at lw_m1 237 rfl) rfl
theorem q316 : (Jvm.Cond.code ({ cls := "java/lang/IndexOutOfBoundsException", name := "<init>", desc := "(Ljava/lang/String;)V" } : Jvm.MethodName) prog_26_method_2_code (2 : Nat) (Option.none : Option Jvm.ClassFile.FieldType)) ∈ lw_all := lw_g (lw_at lw_m1 238 rfl) rfl
theorem q317 : (Jvm.Cond.methodLink "java/lang/IndexOutOfBoundsException" (7 : Nat) ({ cls := "java/lang/RuntimeException", name := "<init>", desc := "(Ljava/lang/String;)V" } : Jvm.MethodName)) ∈ lw_all := lw_g (lw_at lw_m1 239 rfl) rfl
theorem q364 : (Jvm.Cond.declares ({ cls := "java/lang/IndexOutOfBoundsException", name := "<init>", desc := "()V" } : Jvm.MethodName)) ∈ lw_tbl := lw_at lw_m2 46 rfl
theorem q365 : (Jvm.Cond.declares ({ cls := "java/lang/IndexOutOfBoundsException", name := "<init>", desc := "(Ljava/lang/String;)V" } : Jvm.MethodName)) ∈ lw_tbl := lw_at lw_m2 47 rfl
/-! java/lang/ArrayIndexOutOfBoundsException -/
set_option maxRecDepth 100000
def RJ4 : String := "java/lang/ArrayIndexOutOfBoundsException"
def TJ4 : u_T := fun k => match k with
  | 0 => ("java/lang/Throwable", "backtrace", "Ljava/lang/Object;", false)
  | 1 => ("java/lang/Throwable", "detailMessage", "Ljava/lang/String;", false)
  | 2 => ("java/lang/Throwable", "cause", "Ljava/lang/Throwable;", false)
  | 3 => ("java/lang/Throwable", "stackTrace", "[Ljava/lang/StackTraceElement;", false)
  | 4 => ("java/lang/Throwable", "depth", "I", false)
  | _ => ("java/lang/Throwable", "suppressedExceptions", "Ljava/util/List;", false)
def tyJ4 : Nat → FieldType := fun k => match k with
  | 0 => .object "java/lang/Object"
  | 1 => .object "java/lang/String"
  | 2 => .object "java/lang/Throwable"
  | 3 => .array (.object "java/lang/StackTraceElement")
  | 4 => .int
  | _ => .object "java/util/List"
abbrev wsJ40 : List Cond := u_ws RJ4 TJ4 6
theorem nmJ4 : ∀ a, a < 6 → ∀ b, b < 6 → a ≠ b → (TJ4 a).2.1 ≠ (TJ4 b).2.1 := by decide +kernel
theorem tyJ4_ok : ∀ k, k < 6 → parseFieldDescriptor (TJ4 k).2.2.1 = some (tyJ4 k) := by decide +kernel
abbrev cJ4_init : ByteArray := prog_23_method_2_code
def yJ4_init : MethodName := ⟨RJ4, "<init>", "(Ljava/lang/String;)V"⟩
def dkwJ4_init_0 : List UInt8 := [42, 43, 183, 0, 7, 177]
abbrev dktJ4_init_0 : List UInt8 := dkwJ4_init_0 ++ []
theorem dksJ4_init_0 : cJ4_init.data.toList.drop 0 = dktJ4_init_0 := by decide +kernel
theorem dJ4_init_0 : decode cJ4_init 0 = .ok (.aload_n 0, 1) := dk_42 (dk_at dksJ4_init_0 0 rfl rfl)
theorem dJ4_init_1 : decode cJ4_init 1 = .ok (.aload_n 1, 1) := dk_43 (dk_at dksJ4_init_0 1 rfl rfl)
theorem dJ4_init_2 : decode cJ4_init 2 = .ok (.invokespecial 7, 3) := dk_183 0 7 (dk_at dksJ4_init_0 2 rfl rfl)
theorem dJ4_init_5 : decode cJ4_init 5 = .ok (.return_, 1) := dk_177 (dk_at dksJ4_init_0 5 rfl rfl)
theorem q89 : (Jvm.Cond.initialized "java/lang/ArrayIndexOutOfBoundsException") ∈ lw_all := lw_g (lw_at lw_m1 11 rfl) rfl
theorem q311 : (Jvm.Cond.instantiable "java/lang/ArrayIndexOutOfBoundsException" (6 : Nat)) ∈ lw_all := lw_g (lw_at lw_m1 233 rfl) rfl
theorem q312 : (Jvm.Cond.instanceMethod ({ cls := "java/lang/ArrayIndexOutOfBoundsException", name := "<init>", desc := "(Ljava/lang/String;)V" } : Jvm.MethodName)) ∈ lw_all := lw_g (lw_at lw_m1 234 rfl) rfl
theorem q313 : (Jvm.Cond.code ({ cls := "java/lang/ArrayIndexOutOfBoundsException", name := "<init>", desc := "(Ljava/lang/String;)V" } : Jvm.MethodName) prog_23_method_2_code (2 : Nat) (Option.none : Option Jvm.ClassFile.FieldType)) ∈ lw_all := lw_g (lw_at lw_m1 235 rfl) rfl
theorem q314 : (Jvm.Cond.methodLink "java/lang/ArrayIndexOutOfBoundsException" (7 : Nat) ({ cls := "java/lang/IndexOutOfBoundsException", name := "<init>", desc := "(Ljava/lang/String;)V" } : Jvm.MethodName)) ∈ lw_all := lw_g (lw_at lw_m1 236 rfl) rfl
theorem q336 : (Jvm.Cond.selects "java/lang/ArrayIndexOutOfBoundsException" ({ cls := "java/lang/Throwable", name := "fillInStackTrace", desc := "()Ljava/lang/Throwable;" } : Jvm.MethodName) ({ cls := "java/lang/Throwable", name := "fillInStackTrace", desc := "()Ljava/lang/Throwable;" } : Jvm.MethodName)) ∈ lw_all := lw_g (lw_at lw_m2 18 rfl) rfl
theorem q350 : (Jvm.Cond.lays "java/lang/ArrayIndexOutOfBoundsException" "java/lang/Throwable" "backtrace" "Ljava/lang/Object;") ∈ lw_all := lw_g (lw_at lw_m2 32 rfl) rfl
theorem q352 : (Jvm.Cond.lays "java/lang/ArrayIndexOutOfBoundsException" "java/lang/Throwable" "detailMessage" "Ljava/lang/String;") ∈ lw_all := lw_g (lw_at lw_m2 34 rfl) rfl
theorem q354 : (Jvm.Cond.lays "java/lang/ArrayIndexOutOfBoundsException" "java/lang/Throwable" "cause" "Ljava/lang/Throwable;") ∈ lw_all := lw_g (lw_at lw_m2 36 rfl) rfl
theorem q356 : (Jvm.Cond.lays "java/lang/ArrayIndexOutOfBoundsException" "java/lang/Throwable" "stackTrace" "[Ljava/lang/StackTraceElement;") ∈ lw_all := lw_g (lw_at lw_m2 38 rfl) rfl
theorem q358 : (Jvm.Cond.lays "java/lang/ArrayIndexOutOfBoundsException" "java/lang/Throwable" "depth" "I") ∈ lw_all := lw_g (lw_at lw_m2 40 rfl) rfl
theorem q360 : (Jvm.Cond.lays "java/lang/ArrayIndexOutOfBoundsException" "java/lang/Throwable" "suppressedExceptions" "Ljava/util/List;") ∈ lw_all := lw_g (lw_at lw_m2 42 rfl) rfl
theorem q362 : (Jvm.Cond.superclass "java/lang/ArrayIndexOutOfBoundsException" "java/lang/IndexOutOfBoundsException") ∈ lw_all := lw_g (lw_at lw_m2 44 rfl) rfl
theorem q363 : (Jvm.Cond.castable "java/lang/ArrayIndexOutOfBoundsException" "java/lang/ArrayIndexOutOfBoundsException") ∈ lw_tbl := lw_at lw_m2 45 rfl
theorem q372 : (Jvm.Cond.selects "java/lang/ArrayIndexOutOfBoundsException" ({ cls := "java/lang/Throwable", name := "fillInStackTrace", desc := "(I)Ljava/lang/Throwable;" } : Jvm.MethodName) ({ cls := "java/lang/Throwable", name := "fillInStackTrace", desc := "(I)Ljava/lang/Throwable;" } : Jvm.MethodName)) ∈ lw_all := lw_g (lw_at lw_m2 54 rfl) rfl
theorem q1944 : (Jvm.Cond.castable "java/lang/ArrayIndexOutOfBoundsException" "java/lang/IndexOutOfBoundsException") ∈ lw_tbl := lw_at lw_m8 186 rfl
theorem in_J4 : ∀ w ∈ wsJ40, w ∈ lw_all := lw_in wsJ40 [350, 352, 354, 356, 358, 360] (by decide +kernel) (by decide +kernel)
/-! java/lang/String -/
set_option maxRecDepth 100000
def RJ5 : String := "java/lang/String"
def TJ5 : u_T := fun k => match k with
  | 0 => ("java/lang/String", "value", "[B", true)
  | _ => ("java/lang/String", "coder", "B", true)
def tyJ5 : Nat → FieldType := fun k => match k with
  | 0 => .array .byte
  | _ => .byte
abbrev wsJ50 : List Cond := u_ws RJ5 TJ5 2
theorem nmJ5 : ∀ a, a < 2 → ∀ b, b < 2 → a ≠ b → (TJ5 a).2.1 ≠ (TJ5 b).2.1 := by decide +kernel
theorem tyJ5_ok : ∀ k, k < 2 → parseFieldDescriptor (TJ5 k).2.2.1 = some (tyJ5 k) := by decide +kernel
abbrev cJ5_length : ByteArray := prog_31_method_54_code
def yJ5_length : MethodName := ⟨RJ5, "length", "()I"⟩
def dkwJ5_length_0 : List UInt8 := [42, 180, 0, 9, 190, 42, 182, 1, 79, 122, 172]
abbrev dktJ5_length_0 : List UInt8 := dkwJ5_length_0 ++ []
theorem dksJ5_length_0 : cJ5_length.data.toList.drop 0 = dktJ5_length_0 := by decide +kernel
theorem dJ5_length_0 : decode cJ5_length 0 = .ok (.aload_n 0, 1) := dk_42 (dk_at dksJ5_length_0 0 rfl rfl)
theorem dJ5_length_1 : decode cJ5_length 1 = .ok (.getfield 9, 3) := dk_180 0 9 (dk_at dksJ5_length_0 1 rfl rfl)
theorem dJ5_length_4 : decode cJ5_length 4 = .ok (.arraylength, 1) := dk_190 (dk_at dksJ5_length_0 4 rfl rfl)
theorem dJ5_length_5 : decode cJ5_length 5 = .ok (.aload_n 0, 1) := dk_42 (dk_at dksJ5_length_0 5 rfl rfl)
theorem dJ5_length_6 : decode cJ5_length 6 = .ok (.invokevirtual 335, 3) := dk_182 1 79 (dk_at dksJ5_length_0 6 rfl rfl)
theorem dJ5_length_9 : decode cJ5_length 9 = .ok (.ishr, 1) := dk_122 (dk_at dksJ5_length_0 9 rfl rfl)
theorem dJ5_length_10 : decode cJ5_length 10 = .ok (.ireturn, 1) := dk_172 (dk_at dksJ5_length_0 10 rfl rfl)
abbrev cJ5_coder : ByteArray := prog_31_method_152_code
def yJ5_coder : MethodName := ⟨RJ5, "coder", "()B"⟩
def dkwJ5_coder_0 : List UInt8 := [178, 0, 38, 153, 0, 10, 42, 180, 0, 15, 167, 0, 4, 4, 172]
abbrev dktJ5_coder_0 : List UInt8 := dkwJ5_coder_0 ++ []
theorem dksJ5_coder_0 : cJ5_coder.data.toList.drop 0 = dktJ5_coder_0 := by decide +kernel
theorem dJ5_coder_0 : decode cJ5_coder 0 = .ok (.getstatic 38, 3) := dk_178 0 38 (dk_at dksJ5_coder_0 0 rfl rfl)
theorem dJ5_coder_3 : decode cJ5_coder 3 = .ok (.ifCond .eq 10, 3) := dk_153 0 10 (dk_at dksJ5_coder_0 3 rfl rfl)
theorem dJ5_coder_6 : decode cJ5_coder 6 = .ok (.aload_n 0, 1) := dk_42 (dk_at dksJ5_coder_0 6 rfl rfl)
theorem dJ5_coder_7 : decode cJ5_coder 7 = .ok (.getfield 15, 3) := dk_180 0 15 (dk_at dksJ5_coder_0 7 rfl rfl)
theorem dJ5_coder_10 : decode cJ5_coder 10 = .ok (.goto 4, 3) := dk_167 0 4 (dk_at dksJ5_coder_0 10 rfl rfl)
theorem dJ5_coder_13 : decode cJ5_coder 13 = .ok (.iconst 1, 1) := dk_4 (dk_at dksJ5_coder_0 13 rfl rfl)
theorem dJ5_coder_14 : decode cJ5_coder 14 = .ok (.ireturn, 1) := dk_172 (dk_at dksJ5_coder_0 14 rfl rfl)
abbrev cJ5_charAt : ByteArray := prog_31_method_56_code
def yJ5_charAt : MethodName := ⟨RJ5, "charAt", "(I)C"⟩
def dkwJ5_charAt_1 : List UInt8 := [172]
abbrev dktJ5_charAt_1 : List UInt8 := dkwJ5_charAt_1 ++ []
def dkwJ5_charAt_0 : List UInt8 := [42, 182, 1, 236, 153, 0, 12, 42, 180, 0, 9, 27, 184, 1, 239, 172, 42, 180, 0, 9, 27, 184, 1, 242]
abbrev dktJ5_charAt_0 : List UInt8 := dkwJ5_charAt_0 ++ dktJ5_charAt_1
theorem dksJ5_charAt_0 : cJ5_charAt.data.toList.drop 0 = dktJ5_charAt_0 := by decide +kernel
theorem dksJ5_charAt_1 : cJ5_charAt.data.toList.drop 24 = dktJ5_charAt_1 := dk_seg dksJ5_charAt_0 24 rfl rfl
theorem dJ5_charAt_0 : decode cJ5_charAt 0 = .ok (.aload_n 0, 1) := dk_42 (dk_at dksJ5_charAt_0 0 rfl rfl)
theorem dJ5_charAt_1 : decode cJ5_charAt 1 = .ok (.invokevirtual 492, 3) := dk_182 1 236 (dk_at dksJ5_charAt_0 1 rfl rfl)
theorem dJ5_charAt_4 : decode cJ5_charAt 4 = .ok (.ifCond .eq 12, 3) := dk_153 0 12 (dk_at dksJ5_charAt_0 4 rfl rfl)
theorem dJ5_charAt_7 : decode cJ5_charAt 7 = .ok (.aload_n 0, 1) := dk_42 (dk_at dksJ5_charAt_0 7 rfl rfl)
theorem dJ5_charAt_8 : decode cJ5_charAt 8 = .ok (.getfield 9, 3) := dk_180 0 9 (dk_at dksJ5_charAt_0 8 rfl rfl)
theorem dJ5_charAt_11 : decode cJ5_charAt 11 = .ok (.iload_n 1, 1) := dk_27 (dk_at dksJ5_charAt_0 11 rfl rfl)
theorem dJ5_charAt_12 : decode cJ5_charAt 12 = .ok (.invokestatic 495, 3) := dk_184 1 239 (dk_at dksJ5_charAt_0 12 rfl rfl)
theorem dJ5_charAt_15 : decode cJ5_charAt 15 = .ok (.ireturn, 1) := dk_172 (dk_at dksJ5_charAt_0 15 rfl rfl)
theorem dJ5_charAt_16 : decode cJ5_charAt 16 = .ok (.aload_n 0, 1) := dk_42 (dk_at dksJ5_charAt_0 16 rfl rfl)
theorem dJ5_charAt_17 : decode cJ5_charAt 17 = .ok (.getfield 9, 3) := dk_180 0 9 (dk_at dksJ5_charAt_0 17 rfl rfl)
theorem dJ5_charAt_20 : decode cJ5_charAt 20 = .ok (.iload_n 1, 1) := dk_27 (dk_at dksJ5_charAt_0 20 rfl rfl)
theorem dJ5_charAt_21 : decode cJ5_charAt 21 = .ok (.invokestatic 498, 3) := dk_184 1 242 (dk_at dksJ5_charAt_0 21 rfl rfl)
theorem dJ5_charAt_24 : decode cJ5_charAt 24 = .ok (.ireturn, 1) := dk_172 (dk_at dksJ5_charAt_1 0 rfl rfl)
abbrev cJ5_isLatin1 : ByteArray := prog_31_method_154_code
def yJ5_isLatin1 : MethodName := ⟨RJ5, "isLatin1", "()Z"⟩
def dkwJ5_isLatin1_0 : List UInt8 := [178, 0, 38, 153, 0, 14, 42, 180, 0, 15, 154, 0, 7, 4, 167, 0, 4, 3, 172]
abbrev dktJ5_isLatin1_0 : List UInt8 := dkwJ5_isLatin1_0 ++ []
theorem dksJ5_isLatin1_0 : cJ5_isLatin1.data.toList.drop 0 = dktJ5_isLatin1_0 := by decide +kernel
theorem dJ5_isLatin1_0 : decode cJ5_isLatin1 0 = .ok (.getstatic 38, 3) := dk_178 0 38 (dk_at dksJ5_isLatin1_0 0 rfl rfl)
theorem dJ5_isLatin1_3 : decode cJ5_isLatin1 3 = .ok (.ifCond .eq 14, 3) := dk_153 0 14 (dk_at dksJ5_isLatin1_0 3 rfl rfl)
theorem dJ5_isLatin1_6 : decode cJ5_isLatin1 6 = .ok (.aload_n 0, 1) := dk_42 (dk_at dksJ5_isLatin1_0 6 rfl rfl)
theorem dJ5_isLatin1_7 : decode cJ5_isLatin1 7 = .ok (.getfield 15, 3) := dk_180 0 15 (dk_at dksJ5_isLatin1_0 7 rfl rfl)
theorem dJ5_isLatin1_10 : decode cJ5_isLatin1 10 = .ok (.ifCond .ne 7, 3) := dk_154 0 7 (dk_at dksJ5_isLatin1_0 10 rfl rfl)
theorem dJ5_isLatin1_13 : decode cJ5_isLatin1 13 = .ok (.iconst 1, 1) := dk_4 (dk_at dksJ5_isLatin1_0 13 rfl rfl)
theorem dJ5_isLatin1_14 : decode cJ5_isLatin1 14 = .ok (.goto 4, 3) := dk_167 0 4 (dk_at dksJ5_isLatin1_0 14 rfl rfl)
theorem dJ5_isLatin1_17 : decode cJ5_isLatin1 17 = .ok (.iconst 0, 1) := dk_3 (dk_at dksJ5_isLatin1_0 17 rfl rfl)
theorem dJ5_isLatin1_18 : decode cJ5_isLatin1 18 = .ok (.ireturn, 1) := dk_172 (dk_at dksJ5_isLatin1_0 18 rfl rfl)
abbrev cJ5_checkIndex : ByteArray := prog_31_method_155_code
def yJ5_checkIndex : MethodName := ⟨RJ5, "checkIndex", "(II)V"⟩
def dkwJ5_checkIndex_0 : List UInt8 := [26, 27, 178, 4, 29, 184, 4, 35, 87, 177]
abbrev dktJ5_checkIndex_0 : List UInt8 := dkwJ5_checkIndex_0 ++ []
theorem dksJ5_checkIndex_0 : cJ5_checkIndex.data.toList.drop 0 = dktJ5_checkIndex_0 := by decide +kernel
theorem dJ5_checkIndex_0 : decode cJ5_checkIndex 0 = .ok (.iload_n 0, 1) := dk_26 (dk_at dksJ5_checkIndex_0 0 rfl rfl)
theorem dJ5_checkIndex_1 : decode cJ5_checkIndex 1 = .ok (.iload_n 1, 1) := dk_27 (dk_at dksJ5_checkIndex_0 1 rfl rfl)
theorem dJ5_checkIndex_2 : decode cJ5_checkIndex 2 = .ok (.getstatic 1053, 3) := dk_178 4 29 (dk_at dksJ5_checkIndex_0 2 rfl rfl)
theorem dJ5_checkIndex_5 : decode cJ5_checkIndex 5 = .ok (.invokestatic 1059, 3) := dk_184 4 35 (dk_at dksJ5_checkIndex_0 5 rfl rfl)
theorem dJ5_checkIndex_8 : decode cJ5_checkIndex 8 = .ok (.pop, 1) := dk_87 (dk_at dksJ5_checkIndex_0 8 rfl rfl)
theorem dJ5_checkIndex_9 : decode cJ5_checkIndex 9 = .ok (.return_, 1) := dk_177 (dk_at dksJ5_checkIndex_0 9 rfl rfl)
theorem q90 : (Jvm.Cond.initialized "java/lang/String") ∈ lw_all := lw_g (lw_at lw_m1 12 rfl) rfl
theorem q382 : (Jvm.Cond.instantiable "java/lang/String" (4 : Nat)) ∈ lw_all := lw_g (lw_at lw_m2 64 rfl) rfl
theorem q384 : (Jvm.Cond.laysFinal "java/lang/String" "java/lang/String" "value" "[B") ∈ lw_all := lw_g (lw_at lw_m2 66 rfl) rfl
theorem q385 : (Jvm.Cond.soleField "java/lang/String" "value") ∈ lw_all := lw_g (lw_at lw_m2 67 rfl) rfl
theorem q386 : (Jvm.Cond.laysFinal "java/lang/String" "java/lang/String" "coder" "B") ∈ lw_all := lw_g (lw_at lw_m2 68 rfl) rfl
theorem q387 : (Jvm.Cond.soleField "java/lang/String" "coder") ∈ lw_all := lw_g (lw_at lw_m2 69 rfl) rfl
theorem q975 : (Jvm.Cond.instanceMethod ({ cls := "java/lang/String", name := "length", desc := "()I" } : Jvm.MethodName)) ∈ lw_all := lw_g (lw_at lw_m4 177 rfl) rfl
theorem q976 : (Jvm.Cond.selects "java/lang/String" ({ cls := "java/lang/String", name := "length", desc := "()I" } : Jvm.MethodName) ({ cls := "java/lang/String", name := "length", desc := "()I" } : Jvm.MethodName)) ∈ lw_all := lw_g (lw_at lw_m4 178 rfl) rfl
theorem q977 : (Jvm.Cond.code ({ cls := "java/lang/String", name := "length", desc := "()I" } : Jvm.MethodName) prog_31_method_54_code (1 : Nat) (Option.some Jvm.ClassFile.FieldType.int)) ∈ lw_all := lw_g (lw_at lw_m4 179 rfl) rfl
theorem q978 : (Jvm.Cond.methodLink "java/lang/String" (335 : Nat) ({ cls := "java/lang/String", name := "coder", desc := "()B" } : Jvm.MethodName)) ∈ lw_all := lw_g (lw_at lw_m4 180 rfl) rfl
theorem q979 : (Jvm.Cond.instanceMethod ({ cls := "java/lang/String", name := "coder", desc := "()B" } : Jvm.MethodName)) ∈ lw_all := lw_g (lw_at lw_m4 181 rfl) rfl
theorem q980 : (Jvm.Cond.selects "java/lang/String" ({ cls := "java/lang/String", name := "coder", desc := "()B" } : Jvm.MethodName) ({ cls := "java/lang/String", name := "coder", desc := "()B" } : Jvm.MethodName)) ∈ lw_all := lw_g (lw_at lw_m4 182 rfl) rfl
theorem q981 : (Jvm.Cond.code ({ cls := "java/lang/String", name := "coder", desc := "()B" } : Jvm.MethodName) prog_31_method_152_code (1 : Nat) (Option.some Jvm.ClassFile.FieldType.byte)) ∈ lw_all := lw_g (lw_at lw_m4 183 rfl) rfl
theorem q982 : (Jvm.Cond.fieldLink "java/lang/String" (38 : Nat) "java/lang/String" "COMPACT_STRINGS" "Z") ∈ lw_all := lw_g (lw_at lw_m4 184 rfl) rfl
theorem q983 : (Jvm.Cond.laysStatic "java/lang/String" "COMPACT_STRINGS" "Z") ∈ lw_tbl := lw_at lw_m4 185 rfl
theorem q985 : (Jvm.Cond.instanceMethod ({ cls := "java/lang/String", name := "charAt", desc := "(I)C" } : Jvm.MethodName)) ∈ lw_all := lw_g (lw_at lw_m4 187 rfl) rfl
theorem q986 : (Jvm.Cond.selects "java/lang/String" ({ cls := "java/lang/String", name := "charAt", desc := "(I)C" } : Jvm.MethodName) ({ cls := "java/lang/String", name := "charAt", desc := "(I)C" } : Jvm.MethodName)) ∈ lw_all := lw_g (lw_at lw_m4 188 rfl) rfl
theorem q987 : (Jvm.Cond.code ({ cls := "java/lang/String", name := "charAt", desc := "(I)C" } : Jvm.MethodName) prog_31_method_56_code (2 : Nat) (Option.some Jvm.ClassFile.FieldType.char)) ∈ lw_all := lw_g (lw_at lw_m4 189 rfl) rfl
theorem q988 : (Jvm.Cond.methodLink "java/lang/String" (492 : Nat) ({ cls := "java/lang/String", name := "isLatin1", desc := "()Z" } : Jvm.MethodName)) ∈ lw_all := lw_g (lw_at lw_m4 190 rfl) rfl
theorem q989 : (Jvm.Cond.instanceMethod ({ cls := "java/lang/String", name := "isLatin1", desc := "()Z" } : Jvm.MethodName)) ∈ lw_all := lw_g (lw_at lw_m4 191 rfl) rfl
theorem q990 : (Jvm.Cond.selects "java/lang/String" ({ cls := "java/lang/String", name := "isLatin1", desc := "()Z" } : Jvm.MethodName) ({ cls := "java/lang/String", name := "isLatin1", desc := "()Z" } : Jvm.MethodName)) ∈ lw_all := lw_g (lw_at lw_m4 192 rfl) rfl
theorem q991 : (Jvm.Cond.code ({ cls := "java/lang/String", name := "isLatin1", desc := "()Z" } : Jvm.MethodName) prog_31_method_154_code (1 : Nat) (Option.some Jvm.ClassFile.FieldType.boolean)) ∈ lw_all := lw_g (lw_at lw_m4 193 rfl) rfl
theorem q992 : (Jvm.Cond.methodLink "java/lang/String" (495 : Nat) ({ cls := "java/lang/StringLatin1", name := "charAt", desc := "([BI)C" } : Jvm.MethodName)) ∈ lw_all := lw_g (lw_at lw_m4 194 rfl) rfl
theorem q996 : (Jvm.Cond.static ({ cls := "java/lang/String", name := "checkIndex", desc := "(II)V" } : Jvm.MethodName)) ∈ lw_all := lw_g (lw_at lw_m4 198 rfl) rfl
theorem q997 : (Jvm.Cond.code ({ cls := "java/lang/String", name := "checkIndex", desc := "(II)V" } : Jvm.MethodName) prog_31_method_155_code (2 : Nat) (Option.none : Option Jvm.ClassFile.FieldType)) ∈ lw_all := lw_g (lw_at lw_m4 199 rfl) rfl
theorem q998 : (Jvm.Cond.fieldLink "java/lang/String" (1053 : Nat) "jdk/internal/util/Preconditions" "SIOOBE_FORMATTER" "Ljava/util/function/BiFunction;") ∈ lw_all := lw_g (lw_at lw_m4 200 rfl) rfl
theorem q1000 : (Jvm.Cond.methodLink "java/lang/String" (1059 : Nat) ({ cls := "jdk/internal/util/Preconditions", name := "checkIndex", desc := "(IILjava/util/function/BiFunction;)I" } : Jvm.MethodName)) ∈ lw_all := lw_g (lw_at lw_m4 202 rfl) rfl
theorem q1003 : (Jvm.Cond.methodLink "java/lang/String" (498 : Nat) ({ cls := "java/lang/StringUTF16", name := "charAt", desc := "([BI)C" } : Jvm.MethodName)) ∈ lw_all := lw_g (lw_at lw_m4 205 rfl) rfl
theorem q1958 : (Jvm.Cond.fieldLink "java/lang/String" (9 : Nat) "java/lang/String" "value" "[B") ∈ lw_all := lw_g (lw_at lw_m8 200 rfl) rfl
theorem q1959 : (Jvm.Cond.fieldLink "java/lang/String" (15 : Nat) "java/lang/String" "coder" "B") ∈ lw_all := lw_g (lw_at lw_m8 201 rfl) rfl
theorem in_J5 : ∀ w ∈ wsJ50, w ∈ lw_all := lw_in wsJ50 [384, 386] (by decide +kernel) (by decide +kernel)
/-! java/lang/NegativeArraySizeException -/
set_option maxRecDepth 100000
def RJ6 : String := "java/lang/NegativeArraySizeException"
def TJ6 : u_T := fun k => match k with
  | 0 => ("java/lang/Throwable", "backtrace", "Ljava/lang/Object;", false)
  | 1 => ("java/lang/Throwable", "detailMessage", "Ljava/lang/String;", false)
  | 2 => ("java/lang/Throwable", "cause", "Ljava/lang/Throwable;", false)
  | 3 => ("java/lang/Throwable", "stackTrace", "[Ljava/lang/StackTraceElement;", false)
  | 4 => ("java/lang/Throwable", "depth", "I", false)
  | _ => ("java/lang/Throwable", "suppressedExceptions", "Ljava/util/List;", false)
def tyJ6 : Nat → FieldType := fun k => match k with
  | 0 => .object "java/lang/Object"
  | 1 => .object "java/lang/String"
  | 2 => .object "java/lang/Throwable"
  | 3 => .array (.object "java/lang/StackTraceElement")
  | 4 => .int
  | _ => .object "java/util/List"
abbrev wsJ60 : List Cond := u_ws RJ6 TJ6 6
theorem nmJ6 : ∀ a, a < 6 → ∀ b, b < 6 → a ≠ b → (TJ6 a).2.1 ≠ (TJ6 b).2.1 := by decide +kernel
theorem tyJ6_ok : ∀ k, k < 6 → parseFieldDescriptor (TJ6 k).2.2.1 = some (tyJ6 k) := by decide +kernel
abbrev cJ6_init : ByteArray := prog_29_method_2_code
def yJ6_init : MethodName := ⟨RJ6, "<init>", "(Ljava/lang/String;)V"⟩
def dkwJ6_init_0 : List UInt8 := [42, 43, 183, 0, 7, 177]
abbrev dktJ6_init_0 : List UInt8 := dkwJ6_init_0 ++ []
theorem dksJ6_init_0 : cJ6_init.data.toList.drop 0 = dktJ6_init_0 := by decide +kernel
theorem dJ6_init_0 : decode cJ6_init 0 = .ok (.aload_n 0, 1) := dk_42 (dk_at dksJ6_init_0 0 rfl rfl)
theorem dJ6_init_1 : decode cJ6_init 1 = .ok (.aload_n 1, 1) := dk_43 (dk_at dksJ6_init_0 1 rfl rfl)
theorem dJ6_init_2 : decode cJ6_init 2 = .ok (.invokespecial 7, 3) := dk_183 0 7 (dk_at dksJ6_init_0 2 rfl rfl)
theorem dJ6_init_5 : decode cJ6_init 5 = .ok (.return_, 1) := dk_177 (dk_at dksJ6_init_0 5 rfl rfl)
theorem q92 : (Jvm.Cond.initialized "java/lang/NegativeArraySizeException") ∈ lw_all := lw_g (lw_at lw_m1 14 rfl) rfl
theorem q338 : (Jvm.Cond.selects "java/lang/NegativeArraySizeException" ({ cls := "java/lang/Throwable", name := "fillInStackTrace", desc := "()Ljava/lang/Throwable;" } : Jvm.MethodName) ({ cls := "java/lang/Throwable", name := "fillInStackTrace", desc := "()Ljava/lang/Throwable;" } : Jvm.MethodName)) ∈ lw_all := lw_g (lw_at lw_m2 20 rfl) rfl
theorem q422 : (Jvm.Cond.instantiable "java/lang/NegativeArraySizeException" (6 : Nat)) ∈ lw_all := lw_g (lw_at lw_m2 104 rfl) rfl
theorem q423 : (Jvm.Cond.instanceMethod ({ cls := "java/lang/NegativeArraySizeException", name := "<init>", desc := "(Ljava/lang/String;)V" } : Jvm.MethodName)) ∈ lw_all := lw_g (lw_at lw_m2 105 rfl) rfl
theorem q424 : (Jvm.Cond.code ({ cls := "java/lang/NegativeArraySizeException", name := "<init>", desc := "(Ljava/lang/String;)V" } : Jvm.MethodName) prog_29_method_2_code (2 : Nat) (Option.none : Option Jvm.ClassFile.FieldType)) ∈ lw_all := lw_g (lw_at lw_m2 106 rfl) rfl
theorem q425 : (Jvm.Cond.methodLink "java/lang/NegativeArraySizeException" (7 : Nat) ({ cls := "java/lang/RuntimeException", name := "<init>", desc := "(Ljava/lang/String;)V" } : Jvm.MethodName)) ∈ lw_all := lw_g (lw_at lw_m2 107 rfl) rfl
theorem q426 : (Jvm.Cond.lays "java/lang/NegativeArraySizeException" "java/lang/Throwable" "backtrace" "Ljava/lang/Object;") ∈ lw_all := lw_g (lw_at lw_m2 108 rfl) rfl
theorem q427 : (Jvm.Cond.lays "java/lang/NegativeArraySizeException" "java/lang/Throwable" "detailMessage" "Ljava/lang/String;") ∈ lw_all := lw_g (lw_at lw_m2 109 rfl) rfl
theorem q428 : (Jvm.Cond.lays "java/lang/NegativeArraySizeException" "java/lang/Throwable" "cause" "Ljava/lang/Throwable;") ∈ lw_all := lw_g (lw_at lw_m2 110 rfl) rfl
theorem q429 : (Jvm.Cond.lays "java/lang/NegativeArraySizeException" "java/lang/Throwable" "stackTrace" "[Ljava/lang/StackTraceElement;") ∈ lw_all := lw_g (lw_at lw_m2 111 rfl) rfl
theorem q430 : (Jvm.Cond.lays "java/lang/NegativeArraySizeException" "java/lang/Throwable" "depth" "I") ∈ lw_all := lw_g (lw_at lw_m2 112 rfl) rfl
theorem q431 : (Jvm.Cond.lays "java/lang/NegativeArraySizeException" "java/lang/Throwable" "suppressedExceptions" "Ljava/util/List;") ∈ lw_all := lw_g (lw_at lw_m2 113 rfl) rfl
theorem q432 : (Jvm.Cond.superclass "java/lang/NegativeArraySizeException" "java/lang/RuntimeException") ∈ lw_all := lw_g (lw_at lw_m2 114 rfl) rfl
theorem q433 : (Jvm.Cond.castable "java/lang/NegativeArraySizeException" "java/lang/NegativeArraySizeException") ∈ lw_tbl := lw_at lw_m2 115 rfl
theorem q434 : (Jvm.Cond.selects "java/lang/NegativeArraySizeException" ({ cls := "java/lang/Throwable", name := "fillInStackTrace", desc := "(I)Ljava/lang/Throwable;" } : Jvm.MethodName) ({ cls := "java/lang/Throwable", name := "fillInStackTrace", desc := "(I)Ljava/lang/Throwable;" } : Jvm.MethodName)) ∈ lw_all := lw_g (lw_at lw_m2 116 rfl) rfl
theorem in_J6 : ∀ w ∈ wsJ60, w ∈ lw_all := lw_in wsJ60 [426, 427, 428, 429, 430, 431] (by decide +kernel) (by decide +kernel)
/-! java/lang/ClassCastException -/
set_option maxRecDepth 100000
def RJ7 : String := "java/lang/ClassCastException"
def TJ7 : u_T := fun k => match k with
  | 0 => ("java/lang/Throwable", "backtrace", "Ljava/lang/Object;", false)
  | 1 => ("java/lang/Throwable", "detailMessage", "Ljava/lang/String;", false)
  | 2 => ("java/lang/Throwable", "cause", "Ljava/lang/Throwable;", false)
  | 3 => ("java/lang/Throwable", "stackTrace", "[Ljava/lang/StackTraceElement;", false)
  | 4 => ("java/lang/Throwable", "depth", "I", false)
  | _ => ("java/lang/Throwable", "suppressedExceptions", "Ljava/util/List;", false)
def tyJ7 : Nat → FieldType := fun k => match k with
  | 0 => .object "java/lang/Object"
  | 1 => .object "java/lang/String"
  | 2 => .object "java/lang/Throwable"
  | 3 => .array (.object "java/lang/StackTraceElement")
  | 4 => .int
  | _ => .object "java/util/List"
abbrev wsJ70 : List Cond := u_ws RJ7 TJ7 6
theorem nmJ7 : ∀ a, a < 6 → ∀ b, b < 6 → a ≠ b → (TJ7 a).2.1 ≠ (TJ7 b).2.1 := by decide +kernel
theorem tyJ7_ok : ∀ k, k < 6 → parseFieldDescriptor (TJ7 k).2.2.1 = some (tyJ7 k) := by decide +kernel
abbrev cJ7_init : ByteArray := prog_24_method_2_code
def yJ7_init : MethodName := ⟨RJ7, "<init>", "(Ljava/lang/String;)V"⟩
def dkwJ7_init_0 : List UInt8 := [42, 43, 183, 0, 7, 177]
abbrev dktJ7_init_0 : List UInt8 := dkwJ7_init_0 ++ []
theorem dksJ7_init_0 : cJ7_init.data.toList.drop 0 = dktJ7_init_0 := by decide +kernel
theorem dJ7_init_0 : decode cJ7_init 0 = .ok (.aload_n 0, 1) := dk_42 (dk_at dksJ7_init_0 0 rfl rfl)
theorem dJ7_init_1 : decode cJ7_init 1 = .ok (.aload_n 1, 1) := dk_43 (dk_at dksJ7_init_0 1 rfl rfl)
theorem dJ7_init_2 : decode cJ7_init 2 = .ok (.invokespecial 7, 3) := dk_183 0 7 (dk_at dksJ7_init_0 2 rfl rfl)
theorem dJ7_init_5 : decode cJ7_init 5 = .ok (.return_, 1) := dk_177 (dk_at dksJ7_init_0 5 rfl rfl)
theorem q98 : (Jvm.Cond.initialized "java/lang/ClassCastException") ∈ lw_all := lw_g (lw_at lw_m1 20 rfl) rfl
theorem q337 : (Jvm.Cond.selects "java/lang/ClassCastException" ({ cls := "java/lang/Throwable", name := "fillInStackTrace", desc := "()Ljava/lang/Throwable;" } : Jvm.MethodName) ({ cls := "java/lang/Throwable", name := "fillInStackTrace", desc := "()Ljava/lang/Throwable;" } : Jvm.MethodName)) ∈ lw_all := lw_g (lw_at lw_m2 19 rfl) rfl
theorem q493 : (Jvm.Cond.instantiable "java/lang/ClassCastException" (6 : Nat)) ∈ lw_all := lw_g (lw_at lw_m2 175 rfl) rfl
theorem q494 : (Jvm.Cond.instanceMethod ({ cls := "java/lang/ClassCastException", name := "<init>", desc := "(Ljava/lang/String;)V" } : Jvm.MethodName)) ∈ lw_all := lw_g (lw_at lw_m2 176 rfl) rfl
theorem q495 : (Jvm.Cond.code ({ cls := "java/lang/ClassCastException", name := "<init>", desc := "(Ljava/lang/String;)V" } : Jvm.MethodName) prog_24_method_2_code (2 : Nat) (Option.none : Option Jvm.ClassFile.FieldType)) ∈ lw_all := lw_g (lw_at lw_m2 177 rfl) rfl
theorem q496 : (Jvm.Cond.methodLink "java/lang/ClassCastException" (7 : Nat) ({ cls := "java/lang/RuntimeException", name := "<init>", desc := "(Ljava/lang/String;)V" } : Jvm.MethodName)) ∈ lw_all := lw_g (lw_at lw_m2 178 rfl) rfl
theorem q497 : (Jvm.Cond.lays "java/lang/ClassCastException" "java/lang/Throwable" "backtrace" "Ljava/lang/Object;") ∈ lw_all := lw_g (lw_at lw_m2 179 rfl) rfl
theorem q498 : (Jvm.Cond.lays "java/lang/ClassCastException" "java/lang/Throwable" "detailMessage" "Ljava/lang/String;") ∈ lw_all := lw_g (lw_at lw_m2 180 rfl) rfl
theorem q499 : (Jvm.Cond.lays "java/lang/ClassCastException" "java/lang/Throwable" "cause" "Ljava/lang/Throwable;") ∈ lw_all := lw_g (lw_at lw_m2 181 rfl) rfl
theorem q500 : (Jvm.Cond.lays "java/lang/ClassCastException" "java/lang/Throwable" "stackTrace" "[Ljava/lang/StackTraceElement;") ∈ lw_all := lw_g (lw_at lw_m2 182 rfl) rfl
theorem q501 : (Jvm.Cond.lays "java/lang/ClassCastException" "java/lang/Throwable" "depth" "I") ∈ lw_all := lw_g (lw_at lw_m2 183 rfl) rfl
theorem q502 : (Jvm.Cond.lays "java/lang/ClassCastException" "java/lang/Throwable" "suppressedExceptions" "Ljava/util/List;") ∈ lw_all := lw_g (lw_at lw_m2 184 rfl) rfl
theorem q503 : (Jvm.Cond.superclass "java/lang/ClassCastException" "java/lang/RuntimeException") ∈ lw_all := lw_g (lw_at lw_m2 185 rfl) rfl
theorem q504 : (Jvm.Cond.castable "java/lang/ClassCastException" "java/lang/ClassCastException") ∈ lw_tbl := lw_at lw_m2 186 rfl
theorem q505 : (Jvm.Cond.selects "java/lang/ClassCastException" ({ cls := "java/lang/Throwable", name := "fillInStackTrace", desc := "(I)Ljava/lang/Throwable;" } : Jvm.MethodName) ({ cls := "java/lang/Throwable", name := "fillInStackTrace", desc := "(I)Ljava/lang/Throwable;" } : Jvm.MethodName)) ∈ lw_all := lw_g (lw_at lw_m2 187 rfl) rfl
theorem in_J7 : ∀ w ∈ wsJ70, w ∈ lw_all := lw_in wsJ70 [497, 498, 499, 500, 501, 502] (by decide +kernel) (by decide +kernel)
/-! java/lang/Math -/
set_option maxRecDepth 100000
def RJ8 : String := "java/lang/Math"
abbrev cJ8_max : ByteArray := prog_28_method_65_code
def yJ8_max : MethodName := ⟨RJ8, "max", "(II)I"⟩
def dkwJ8_max_0 : List UInt8 := [26, 27, 161, 0, 7, 26, 167, 0, 4, 27, 172]
abbrev dktJ8_max_0 : List UInt8 := dkwJ8_max_0 ++ []
theorem dksJ8_max_0 : cJ8_max.data.toList.drop 0 = dktJ8_max_0 := by decide +kernel
theorem dJ8_max_0 : decode cJ8_max 0 = .ok (.iload_n 0, 1) := dk_26 (dk_at dksJ8_max_0 0 rfl rfl)
theorem dJ8_max_1 : decode cJ8_max 1 = .ok (.iload_n 1, 1) := dk_27 (dk_at dksJ8_max_0 1 rfl rfl)
theorem dJ8_max_2 : decode cJ8_max 2 = .ok (.if_icmp .lt 7, 3) := dk_161 0 7 (dk_at dksJ8_max_0 2 rfl rfl)
theorem dJ8_max_5 : decode cJ8_max 5 = .ok (.iload_n 0, 1) := dk_26 (dk_at dksJ8_max_0 5 rfl rfl)
theorem dJ8_max_6 : decode cJ8_max 6 = .ok (.goto 4, 3) := dk_167 0 4 (dk_at dksJ8_max_0 6 rfl rfl)
theorem dJ8_max_9 : decode cJ8_max 9 = .ok (.iload_n 1, 1) := dk_27 (dk_at dksJ8_max_0 9 rfl rfl)
theorem dJ8_max_10 : decode cJ8_max 10 = .ok (.ireturn, 1) := dk_172 (dk_at dksJ8_max_0 10 rfl rfl)
abbrev cJ8_min : ByteArray := prog_28_method_69_code
def yJ8_min : MethodName := ⟨RJ8, "min", "(II)I"⟩
def dkwJ8_min_0 : List UInt8 := [26, 27, 163, 0, 7, 26, 167, 0, 4, 27, 172]
abbrev dktJ8_min_0 : List UInt8 := dkwJ8_min_0 ++ []
theorem dksJ8_min_0 : cJ8_min.data.toList.drop 0 = dktJ8_min_0 := by decide +kernel
theorem dJ8_min_0 : decode cJ8_min 0 = .ok (.iload_n 0, 1) := dk_26 (dk_at dksJ8_min_0 0 rfl rfl)
theorem dJ8_min_1 : decode cJ8_min 1 = .ok (.iload_n 1, 1) := dk_27 (dk_at dksJ8_min_0 1 rfl rfl)
theorem dJ8_min_2 : decode cJ8_min 2 = .ok (.if_icmp .gt 7, 3) := dk_163 0 7 (dk_at dksJ8_min_0 2 rfl rfl)
theorem dJ8_min_5 : decode cJ8_min 5 = .ok (.iload_n 0, 1) := dk_26 (dk_at dksJ8_min_0 5 rfl rfl)
theorem dJ8_min_6 : decode cJ8_min 6 = .ok (.goto 4, 3) := dk_167 0 4 (dk_at dksJ8_min_0 6 rfl rfl)
theorem dJ8_min_9 : decode cJ8_min 9 = .ok (.iload_n 1, 1) := dk_27 (dk_at dksJ8_min_0 9 rfl rfl)
theorem dJ8_min_10 : decode cJ8_min 10 = .ok (.ireturn, 1) := dk_172 (dk_at dksJ8_min_0 10 rfl rfl)
abbrev cJ8_abs : ByteArray := prog_28_method_59_code
def yJ8_abs : MethodName := ⟨RJ8, "abs", "(I)I"⟩
def dkwJ8_abs_0 : List UInt8 := [26, 156, 0, 8, 26, 116, 167, 0, 4, 26, 172]
abbrev dktJ8_abs_0 : List UInt8 := dkwJ8_abs_0 ++ []
theorem dksJ8_abs_0 : cJ8_abs.data.toList.drop 0 = dktJ8_abs_0 := by decide +kernel
theorem dJ8_abs_0 : decode cJ8_abs 0 = .ok (.iload_n 0, 1) := dk_26 (dk_at dksJ8_abs_0 0 rfl rfl)
theorem dJ8_abs_1 : decode cJ8_abs 1 = .ok (.ifCond .ge 8, 3) := dk_156 0 8 (dk_at dksJ8_abs_0 1 rfl rfl)
theorem dJ8_abs_4 : decode cJ8_abs 4 = .ok (.iload_n 0, 1) := dk_26 (dk_at dksJ8_abs_0 4 rfl rfl)
theorem dJ8_abs_5 : decode cJ8_abs 5 = .ok (.ineg, 1) := dk_116 (dk_at dksJ8_abs_0 5 rfl rfl)
theorem dJ8_abs_6 : decode cJ8_abs 6 = .ok (.goto 4, 3) := dk_167 0 4 (dk_at dksJ8_abs_0 6 rfl rfl)
theorem dJ8_abs_9 : decode cJ8_abs 9 = .ok (.iload_n 0, 1) := dk_26 (dk_at dksJ8_abs_0 9 rfl rfl)
theorem dJ8_abs_10 : decode cJ8_abs 10 = .ok (.ireturn, 1) := dk_172 (dk_at dksJ8_abs_0 10 rfl rfl)
theorem q100 : (Jvm.Cond.initialized "java/lang/Math") ∈ lw_all := lw_g (lw_at lw_m1 22 rfl) rfl
theorem q649 : (Jvm.Cond.static ({ cls := "java/lang/Math", name := "max", desc := "(II)I" } : Jvm.MethodName)) ∈ lw_all := lw_g (lw_at lw_m3 91 rfl) rfl
theorem q650 : (Jvm.Cond.code ({ cls := "java/lang/Math", name := "max", desc := "(II)I" } : Jvm.MethodName) prog_28_method_65_code (2 : Nat) (Option.some Jvm.ClassFile.FieldType.int)) ∈ lw_all := lw_g (lw_at lw_m3 92 rfl) rfl
theorem q670 : (Jvm.Cond.static ({ cls := "java/lang/Math", name := "min", desc := "(II)I" } : Jvm.MethodName)) ∈ lw_all := lw_g (lw_at lw_m3 112 rfl) rfl
theorem q671 : (Jvm.Cond.code ({ cls := "java/lang/Math", name := "min", desc := "(II)I" } : Jvm.MethodName) prog_28_method_69_code (2 : Nat) (Option.some Jvm.ClassFile.FieldType.int)) ∈ lw_all := lw_g (lw_at lw_m3 113 rfl) rfl
theorem q1120 : (Jvm.Cond.static ({ cls := "java/lang/Math", name := "abs", desc := "(I)I" } : Jvm.MethodName)) ∈ lw_all := lw_g (lw_at lw_m5 82 rfl) rfl
theorem q1121 : (Jvm.Cond.code ({ cls := "java/lang/Math", name := "abs", desc := "(I)I" } : Jvm.MethodName) prog_28_method_59_code (1 : Nat) (Option.some Jvm.ClassFile.FieldType.int)) ∈ lw_all := lw_g (lw_at lw_m5 83 rfl) rfl
/-! java/lang/StringLatin1 -/
set_option maxRecDepth 100000
def RJ9 : String := "java/lang/StringLatin1"
abbrev cJ9_charAt : ByteArray := prog_32_method_2_code
def yJ9_charAt : MethodName := ⟨RJ9, "charAt", "([BI)C"⟩
def dkwJ9_charAt_0 : List UInt8 := [27, 42, 190, 184, 0, 9, 42, 27, 51, 17, 0, 255, 126, 146, 172]
abbrev dktJ9_charAt_0 : List UInt8 := dkwJ9_charAt_0 ++ []
theorem dksJ9_charAt_0 : cJ9_charAt.data.toList.drop 0 = dktJ9_charAt_0 := by decide +kernel
theorem dJ9_charAt_0 : decode cJ9_charAt 0 = .ok (.iload_n 1, 1) := dk_27 (dk_at dksJ9_charAt_0 0 rfl rfl)
theorem dJ9_charAt_1 : decode cJ9_charAt 1 = .ok (.aload_n 0, 1) := dk_42 (dk_at dksJ9_charAt_0 1 rfl rfl)
theorem dJ9_charAt_2 : decode cJ9_charAt 2 = .ok (.arraylength, 1) := dk_190 (dk_at dksJ9_charAt_0 2 rfl rfl)
theorem dJ9_charAt_3 : decode cJ9_charAt 3 = .ok (.invokestatic 9, 3) := dk_184 0 9 (dk_at dksJ9_charAt_0 3 rfl rfl)
theorem dJ9_charAt_6 : decode cJ9_charAt 6 = .ok (.aload_n 0, 1) := dk_42 (dk_at dksJ9_charAt_0 6 rfl rfl)
theorem dJ9_charAt_7 : decode cJ9_charAt 7 = .ok (.iload_n 1, 1) := dk_27 (dk_at dksJ9_charAt_0 7 rfl rfl)
theorem dJ9_charAt_8 : decode cJ9_charAt 8 = .ok (.baload, 1) := dk_51 (dk_at dksJ9_charAt_0 8 rfl rfl)
theorem dJ9_charAt_9 : decode cJ9_charAt 9 = .ok (.sipush 255, 3) := dk_17 0 255 (dk_at dksJ9_charAt_0 9 rfl rfl)
theorem dJ9_charAt_12 : decode cJ9_charAt 12 = .ok (.iand, 1) := dk_126 (dk_at dksJ9_charAt_0 12 rfl rfl)
theorem dJ9_charAt_13 : decode cJ9_charAt 13 = .ok (.i2c, 1) := dk_146 (dk_at dksJ9_charAt_0 13 rfl rfl)
theorem dJ9_charAt_14 : decode cJ9_charAt 14 = .ok (.ireturn, 1) := dk_172 (dk_at dksJ9_charAt_0 14 rfl rfl)
theorem q109 : (Jvm.Cond.initialized "java/lang/StringLatin1") ∈ lw_all := lw_g (lw_at lw_m1 31 rfl) rfl
theorem q993 : (Jvm.Cond.static ({ cls := "java/lang/StringLatin1", name := "charAt", desc := "([BI)C" } : Jvm.MethodName)) ∈ lw_all := lw_g (lw_at lw_m4 195 rfl) rfl
theorem q994 : (Jvm.Cond.code ({ cls := "java/lang/StringLatin1", name := "charAt", desc := "([BI)C" } : Jvm.MethodName) prog_32_method_2_code (2 : Nat) (Option.some Jvm.ClassFile.FieldType.char)) ∈ lw_all := lw_g (lw_at lw_m4 196 rfl) rfl
theorem q995 : (Jvm.Cond.methodLink "java/lang/StringLatin1" (9 : Nat) ({ cls := "java/lang/String", name := "checkIndex", desc := "(II)V" } : Jvm.MethodName)) ∈ lw_all := lw_g (lw_at lw_m4 197 rfl) rfl
/-! jdk/internal/util/Preconditions -/
set_option maxRecDepth 100000
def RJ10 : String := "jdk/internal/util/Preconditions"
abbrev cJ10_checkIndex : ByteArray := prog_36_method_11_code
def yJ10_checkIndex : MethodName := ⟨RJ10, "checkIndex", "(IILjava/util/function/BiFunction;)I"⟩
def dkwJ10_checkIndex_0 : List UInt8 := [26, 155, 0, 8, 26, 27, 161, 0, 10, 44, 26, 27, 184, 0, 95, 191, 26, 172]
abbrev dktJ10_checkIndex_0 : List UInt8 := dkwJ10_checkIndex_0 ++ []
theorem dksJ10_checkIndex_0 : cJ10_checkIndex.data.toList.drop 0 = dktJ10_checkIndex_0 := by decide +kernel
theorem dJ10_checkIndex_0 : decode cJ10_checkIndex 0 = .ok (.iload_n 0, 1) := dk_26 (dk_at dksJ10_checkIndex_0 0 rfl rfl)
theorem dJ10_checkIndex_1 : decode cJ10_checkIndex 1 = .ok (.ifCond .lt 8, 3) := dk_155 0 8 (dk_at dksJ10_checkIndex_0 1 rfl rfl)
theorem dJ10_checkIndex_4 : decode cJ10_checkIndex 4 = .ok (.iload_n 0, 1) := dk_26 (dk_at dksJ10_checkIndex_0 4 rfl rfl)
theorem dJ10_checkIndex_5 : decode cJ10_checkIndex 5 = .ok (.iload_n 1, 1) := dk_27 (dk_at dksJ10_checkIndex_0 5 rfl rfl)
theorem dJ10_checkIndex_6 : decode cJ10_checkIndex 6 = .ok (.if_icmp .lt 10, 3) := dk_161 0 10 (dk_at dksJ10_checkIndex_0 6 rfl rfl)
theorem dJ10_checkIndex_9 : decode cJ10_checkIndex 9 = .ok (.aload_n 2, 1) := dk_44 (dk_at dksJ10_checkIndex_0 9 rfl rfl)
theorem dJ10_checkIndex_10 : decode cJ10_checkIndex 10 = .ok (.iload_n 0, 1) := dk_26 (dk_at dksJ10_checkIndex_0 10 rfl rfl)
theorem dJ10_checkIndex_11 : decode cJ10_checkIndex 11 = .ok (.iload_n 1, 1) := dk_27 (dk_at dksJ10_checkIndex_0 11 rfl rfl)
theorem dJ10_checkIndex_12 : decode cJ10_checkIndex 12 = .ok (.invokestatic 95, 3) := dk_184 0 95 (dk_at dksJ10_checkIndex_0 12 rfl rfl)
theorem dJ10_checkIndex_15 : decode cJ10_checkIndex 15 = .ok (.athrow, 1) := dk_191 (dk_at dksJ10_checkIndex_0 15 rfl rfl)
theorem dJ10_checkIndex_16 : decode cJ10_checkIndex 16 = .ok (.iload_n 0, 1) := dk_26 (dk_at dksJ10_checkIndex_0 16 rfl rfl)
theorem dJ10_checkIndex_17 : decode cJ10_checkIndex 17 = .ok (.ireturn, 1) := dk_172 (dk_at dksJ10_checkIndex_0 17 rfl rfl)
theorem q110 : (Jvm.Cond.initialized "jdk/internal/util/Preconditions") ∈ lw_all := lw_g (lw_at lw_m1 32 rfl) rfl
theorem q999 : (Jvm.Cond.laysStatic "jdk/internal/util/Preconditions" "SIOOBE_FORMATTER" "Ljava/util/function/BiFunction;") ∈ lw_tbl := lw_at lw_m4 201 rfl
theorem q1001 : (Jvm.Cond.static ({ cls := "jdk/internal/util/Preconditions", name := "checkIndex", desc := "(IILjava/util/function/BiFunction;)I" } : Jvm.MethodName)) ∈ lw_all := lw_g (lw_at lw_m4 203 rfl) rfl
theorem q1002 : (Jvm.Cond.code ({ cls := "jdk/internal/util/Preconditions", name := "checkIndex", desc := "(IILjava/util/function/BiFunction;)I" } : Jvm.MethodName) prog_36_method_11_code (3 : Nat) (Option.some Jvm.ClassFile.FieldType.int)) ∈ lw_all := lw_g (lw_at lw_m4 204 rfl) rfl
/-! java/lang/StringUTF16 -/
set_option maxRecDepth 100000
def RJ11 : String := "java/lang/StringUTF16"
abbrev cJ11_charAt : ByteArray := prog_33_method_83_code
def yJ11_charAt : MethodName := ⟨RJ11, "charAt", "([BI)C"⟩
def dkwJ11_charAt_0 : List UInt8 := [27, 42, 184, 0, 67, 42, 27, 184, 0, 71, 172]
abbrev dktJ11_charAt_0 : List UInt8 := dkwJ11_charAt_0 ++ []
theorem dksJ11_charAt_0 : cJ11_charAt.data.toList.drop 0 = dktJ11_charAt_0 := by decide +kernel
theorem dJ11_charAt_0 : decode cJ11_charAt 0 = .ok (.iload_n 1, 1) := dk_27 (dk_at dksJ11_charAt_0 0 rfl rfl)
theorem dJ11_charAt_1 : decode cJ11_charAt 1 = .ok (.aload_n 0, 1) := dk_42 (dk_at dksJ11_charAt_0 1 rfl rfl)
theorem dJ11_charAt_2 : decode cJ11_charAt 2 = .ok (.invokestatic 67, 3) := dk_184 0 67 (dk_at dksJ11_charAt_0 2 rfl rfl)
theorem dJ11_charAt_5 : decode cJ11_charAt 5 = .ok (.aload_n 0, 1) := dk_42 (dk_at dksJ11_charAt_0 5 rfl rfl)
theorem dJ11_charAt_6 : decode cJ11_charAt 6 = .ok (.iload_n 1, 1) := dk_27 (dk_at dksJ11_charAt_0 6 rfl rfl)
theorem dJ11_charAt_7 : decode cJ11_charAt 7 = .ok (.invokestatic 71, 3) := dk_184 0 71 (dk_at dksJ11_charAt_0 7 rfl rfl)
theorem dJ11_charAt_10 : decode cJ11_charAt 10 = .ok (.ireturn, 1) := dk_172 (dk_at dksJ11_charAt_0 10 rfl rfl)
abbrev cJ11_checkIndex : ByteArray := prog_33_method_91_code
def yJ11_checkIndex : MethodName := ⟨RJ11, "checkIndex", "(I[B)V"⟩
def dkwJ11_checkIndex_0 : List UInt8 := [26, 43, 184, 0, 48, 184, 1, 158, 177]
abbrev dktJ11_checkIndex_0 : List UInt8 := dkwJ11_checkIndex_0 ++ []
theorem dksJ11_checkIndex_0 : cJ11_checkIndex.data.toList.drop 0 = dktJ11_checkIndex_0 := by decide +kernel
theorem dJ11_checkIndex_0 : decode cJ11_checkIndex 0 = .ok (.iload_n 0, 1) := dk_26 (dk_at dksJ11_checkIndex_0 0 rfl rfl)
theorem dJ11_checkIndex_1 : decode cJ11_checkIndex 1 = .ok (.aload_n 1, 1) := dk_43 (dk_at dksJ11_checkIndex_0 1 rfl rfl)
theorem dJ11_checkIndex_2 : decode cJ11_checkIndex 2 = .ok (.invokestatic 48, 3) := dk_184 0 48 (dk_at dksJ11_checkIndex_0 2 rfl rfl)
theorem dJ11_checkIndex_5 : decode cJ11_checkIndex 5 = .ok (.invokestatic 414, 3) := dk_184 1 158 (dk_at dksJ11_checkIndex_0 5 rfl rfl)
theorem dJ11_checkIndex_8 : decode cJ11_checkIndex 8 = .ok (.return_, 1) := dk_177 (dk_at dksJ11_checkIndex_0 8 rfl rfl)
abbrev cJ11_length : ByteArray := prog_33_method_6_code
def yJ11_length : MethodName := ⟨RJ11, "length", "([B)I"⟩
def dkwJ11_length_0 : List UInt8 := [42, 190, 4, 122, 172]
abbrev dktJ11_length_0 : List UInt8 := dkwJ11_length_0 ++ []
theorem dksJ11_length_0 : cJ11_length.data.toList.drop 0 = dktJ11_length_0 := by decide +kernel
theorem dJ11_length_0 : decode cJ11_length 0 = .ok (.aload_n 0, 1) := dk_42 (dk_at dksJ11_length_0 0 rfl rfl)
theorem dJ11_length_1 : decode cJ11_length 1 = .ok (.arraylength, 1) := dk_190 (dk_at dksJ11_length_0 1 rfl rfl)
theorem dJ11_length_2 : decode cJ11_length 2 = .ok (.iconst 1, 1) := dk_4 (dk_at dksJ11_length_0 2 rfl rfl)
theorem dJ11_length_3 : decode cJ11_length 3 = .ok (.ishr, 1) := dk_122 (dk_at dksJ11_length_0 3 rfl rfl)
theorem dJ11_length_4 : decode cJ11_length 4 = .ok (.ireturn, 1) := dk_172 (dk_at dksJ11_length_0 4 rfl rfl)
abbrev cJ11_getChar : ByteArray := prog_33_method_5_code
def yJ11_getChar : MethodName := ⟨RJ11, "getChar", "([BI)C"⟩
def dkwJ11_getChar_2 : List UInt8 := [51, 17, 0, 255, 126, 178, 0, 63, 120, 128, 146, 172]
abbrev dktJ11_getChar_2 : List UInt8 := dkwJ11_getChar_2 ++ []
def dkwJ11_getChar_1 : List UInt8 := [183, 0, 56, 191, 27, 4, 120, 60, 42, 27, 132, 1, 1, 51, 17, 0, 255, 126, 178, 0, 59, 120, 42, 27]
abbrev dktJ11_getChar_1 : List UInt8 := dkwJ11_getChar_1 ++ dktJ11_getChar_2
def dkwJ11_getChar_0 : List UInt8 := [178, 0, 44, 154, 0, 25, 27, 155, 0, 11, 27, 42, 184, 0, 48, 161, 0, 13, 187, 0, 52, 89, 18, 54]
abbrev dktJ11_getChar_0 : List UInt8 := dkwJ11_getChar_0 ++ dktJ11_getChar_1
theorem dksJ11_getChar_0 : cJ11_getChar.data.toList.drop 0 = dktJ11_getChar_0 := by decide +kernel
theorem dksJ11_getChar_1 : cJ11_getChar.data.toList.drop 24 = dktJ11_getChar_1 := dk_seg dksJ11_getChar_0 24 rfl rfl
theorem dksJ11_getChar_2 : cJ11_getChar.data.toList.drop 48 = dktJ11_getChar_2 := dk_seg dksJ11_getChar_1 24 rfl rfl
theorem dJ11_getChar_0 : decode cJ11_getChar 0 = .ok (.getstatic 44, 3) := dk_178 0 44 (dk_at dksJ11_getChar_0 0 rfl rfl)
theorem dJ11_getChar_3 : decode cJ11_getChar 3 = .ok (.ifCond .ne 25, 3) := dk_154 0 25 (dk_at dksJ11_getChar_0 3 rfl rfl)
theorem dJ11_getChar_6 : decode cJ11_getChar 6 = .ok (.iload_n 1, 1) := dk_27 (dk_at dksJ11_getChar_0 6 rfl rfl)
theorem dJ11_getChar_7 : decode cJ11_getChar 7 = .ok (.ifCond .lt 11, 3) := dk_155 0 11 (dk_at dksJ11_getChar_0 7 rfl rfl)
theorem dJ11_getChar_10 : decode cJ11_getChar 10 = .ok (.iload_n 1, 1) := dk_27 (dk_at dksJ11_getChar_0 10 rfl rfl)
theorem dJ11_getChar_11 : decode cJ11_getChar 11 = .ok (.aload_n 0, 1) := dk_42 (dk_at dksJ11_getChar_0 11 rfl rfl)
theorem dJ11_getChar_12 : decode cJ11_getChar 12 = .ok (.invokestatic 48, 3) := dk_184 0 48 (dk_at dksJ11_getChar_0 12 rfl rfl)
theorem dJ11_getChar_15 : decode cJ11_getChar 15 = .ok (.if_icmp .lt 13, 3) := dk_161 0 13 (dk_at dksJ11_getChar_0 15 rfl rfl)
theorem dJ11_getChar_18 : decode cJ11_getChar 18 = .ok (.new 52, 3) := dk_187 0 52 (dk_at dksJ11_getChar_0 18 rfl rfl)
theorem dJ11_getChar_21 : decode cJ11_getChar 21 = .ok (.dup, 1) := dk_89 (dk_at dksJ11_getChar_0 21 rfl rfl)
theorem dJ11_getChar_22 : decode cJ11_getChar 22 = .ok (.ldc 54, 2) := dk_18 54 (dk_at dksJ11_getChar_0 22 rfl rfl)
theorem dJ11_getChar_24 : decode cJ11_getChar 24 = .ok (.invokespecial 56, 3) := dk_183 0 56 (dk_at dksJ11_getChar_1 0 rfl rfl)
theorem dJ11_getChar_27 : decode cJ11_getChar 27 = .ok (.athrow, 1) := dk_191 (dk_at dksJ11_getChar_1 3 rfl rfl)
theorem dJ11_getChar_28 : decode cJ11_getChar 28 = .ok (.iload_n 1, 1) := dk_27 (dk_at dksJ11_getChar_1 4 rfl rfl)
theorem dJ11_getChar_29 : decode cJ11_getChar 29 = .ok (.iconst 1, 1) := dk_4 (dk_at dksJ11_getChar_1 5 rfl rfl)
theorem dJ11_getChar_30 : decode cJ11_getChar 30 = .ok (.ishl, 1) := dk_120 (dk_at dksJ11_getChar_1 6 rfl rfl)
theorem dJ11_getChar_31 : decode cJ11_getChar 31 = .ok (.istore_n 1, 1) := dk_60 (dk_at dksJ11_getChar_1 7 rfl rfl)
theorem dJ11_getChar_32 : decode cJ11_getChar 32 = .ok (.aload_n 0, 1) := dk_42 (dk_at dksJ11_getChar_1 8 rfl rfl)
theorem dJ11_getChar_33 : decode cJ11_getChar 33 = .ok (.iload_n 1, 1) := dk_27 (dk_at dksJ11_getChar_1 9 rfl rfl)
theorem dJ11_getChar_34 : decode cJ11_getChar 34 = .ok (.iinc 1 1, 3) := dk_132 1 1 (dk_at dksJ11_getChar_1 10 rfl rfl)
theorem dJ11_getChar_37 : decode cJ11_getChar 37 = .ok (.baload, 1) := dk_51 (dk_at dksJ11_getChar_1 13 rfl rfl)
theorem dJ11_getChar_38 : decode cJ11_getChar 38 = .ok (.sipush 255, 3) := dk_17 0 255 (dk_at dksJ11_getChar_1 14 rfl rfl)
theorem dJ11_getChar_41 : decode cJ11_getChar 41 = .ok (.iand, 1) := dk_126 (dk_at dksJ11_getChar_1 17 rfl rfl)
theorem dJ11_getChar_42 : decode cJ11_getChar 42 = .ok (.getstatic 59, 3) := dk_178 0 59 (dk_at dksJ11_getChar_1 18 rfl rfl)
theorem dJ11_getChar_45 : decode cJ11_getChar 45 = .ok (.ishl, 1) := dk_120 (dk_at dksJ11_getChar_1 21 rfl rfl)
theorem dJ11_getChar_46 : decode cJ11_getChar 46 = .ok (.aload_n 0, 1) := dk_42 (dk_at dksJ11_getChar_1 22 rfl rfl)
theorem dJ11_getChar_47 : decode cJ11_getChar 47 = .ok (.iload_n 1, 1) := dk_27 (dk_at dksJ11_getChar_1 23 rfl rfl)
theorem dJ11_getChar_48 : decode cJ11_getChar 48 = .ok (.baload, 1) := dk_51 (dk_at dksJ11_getChar_2 0 rfl rfl)
theorem dJ11_getChar_49 : decode cJ11_getChar 49 = .ok (.sipush 255, 3) := dk_17 0 255 (dk_at dksJ11_getChar_2 1 rfl rfl)
theorem dJ11_getChar_52 : decode cJ11_getChar 52 = .ok (.iand, 1) := dk_126 (dk_at dksJ11_getChar_2 4 rfl rfl)
theorem dJ11_getChar_53 : decode cJ11_getChar 53 = .ok (.getstatic 63, 3) := dk_178 0 63 (dk_at dksJ11_getChar_2 5 rfl rfl)
theorem dJ11_getChar_56 : decode cJ11_getChar 56 = .ok (.ishl, 1) := dk_120 (dk_at dksJ11_getChar_2 8 rfl rfl)
theorem dJ11_getChar_57 : decode cJ11_getChar 57 = .ok (.ior, 1) := dk_128 (dk_at dksJ11_getChar_2 9 rfl rfl)
theorem dJ11_getChar_58 : decode cJ11_getChar 58 = .ok (.i2c, 1) := dk_146 (dk_at dksJ11_getChar_2 10 rfl rfl)
theorem dJ11_getChar_59 : decode cJ11_getChar 59 = .ok (.ireturn, 1) := dk_172 (dk_at dksJ11_getChar_2 11 rfl rfl)
theorem q111 : (Jvm.Cond.initialized "java/lang/StringUTF16") ∈ lw_all := lw_g (lw_at lw_m1 33 rfl) rfl
theorem q1004 : (Jvm.Cond.static ({ cls := "java/lang/StringUTF16", name := "charAt", desc := "([BI)C" } : Jvm.MethodName)) ∈ lw_all := lw_g (lw_at lw_m4 206 rfl) rfl
theorem q1005 : (Jvm.Cond.code ({ cls := "java/lang/StringUTF16", name := "charAt", desc := "([BI)C" } : Jvm.MethodName) prog_33_method_83_code (2 : Nat) (Option.some Jvm.ClassFile.FieldType.char)) ∈ lw_all := lw_g (lw_at lw_m4 207 rfl) rfl
theorem q1006 : (Jvm.Cond.methodLink "java/lang/StringUTF16" (67 : Nat) ({ cls := "java/lang/StringUTF16", name := "checkIndex", desc := "(I[B)V" } : Jvm.MethodName)) ∈ lw_all := lw_g (lw_at lw_m4 208 rfl) rfl
theorem q1007 : (Jvm.Cond.static ({ cls := "java/lang/StringUTF16", name := "checkIndex", desc := "(I[B)V" } : Jvm.MethodName)) ∈ lw_all := lw_g (lw_at lw_m4 209 rfl) rfl
theorem q1008 : (Jvm.Cond.code ({ cls := "java/lang/StringUTF16", name := "checkIndex", desc := "(I[B)V" } : Jvm.MethodName) prog_33_method_91_code (2 : Nat) (Option.none : Option Jvm.ClassFile.FieldType)) ∈ lw_all := lw_g (lw_at lw_m4 210 rfl) rfl
theorem q1009 : (Jvm.Cond.methodLink "java/lang/StringUTF16" (48 : Nat) ({ cls := "java/lang/StringUTF16", name := "length", desc := "([B)I" } : Jvm.MethodName)) ∈ lw_all := lw_g (lw_at lw_m4 211 rfl) rfl
theorem q1010 : (Jvm.Cond.static ({ cls := "java/lang/StringUTF16", name := "length", desc := "([B)I" } : Jvm.MethodName)) ∈ lw_all := lw_g (lw_at lw_m4 212 rfl) rfl
theorem q1011 : (Jvm.Cond.code ({ cls := "java/lang/StringUTF16", name := "length", desc := "([B)I" } : Jvm.MethodName) prog_33_method_6_code (1 : Nat) (Option.some Jvm.ClassFile.FieldType.int)) ∈ lw_all := lw_g (lw_at lw_m4 213 rfl) rfl
theorem q1012 : (Jvm.Cond.methodLink "java/lang/StringUTF16" (414 : Nat) ({ cls := "java/lang/String", name := "checkIndex", desc := "(II)V" } : Jvm.MethodName)) ∈ lw_all := lw_g (lw_at lw_m4 214 rfl) rfl
theorem q1013 : (Jvm.Cond.methodLink "java/lang/StringUTF16" (71 : Nat) ({ cls := "java/lang/StringUTF16", name := "getChar", desc := "([BI)C" } : Jvm.MethodName)) ∈ lw_all := lw_g (lw_at lw_m4 215 rfl) rfl
theorem q1014 : (Jvm.Cond.static ({ cls := "java/lang/StringUTF16", name := "getChar", desc := "([BI)C" } : Jvm.MethodName)) ∈ lw_all := lw_g (lw_at lw_m4 216 rfl) rfl
theorem q1015 : (Jvm.Cond.code ({ cls := "java/lang/StringUTF16", name := "getChar", desc := "([BI)C" } : Jvm.MethodName) prog_33_method_5_code (2 : Nat) (Option.some Jvm.ClassFile.FieldType.char)) ∈ lw_all := lw_g (lw_at lw_m4 217 rfl) rfl
theorem q1016 : (Jvm.Cond.fieldLink "java/lang/StringUTF16" (44 : Nat) "java/lang/StringUTF16" "$assertionsDisabled" "Z") ∈ lw_all := lw_g (lw_at lw_m4 218 rfl) rfl
theorem q1017 : (Jvm.Cond.laysStatic "java/lang/StringUTF16" "$assertionsDisabled" "Z") ∈ lw_tbl := lw_at lw_m4 219 rfl
theorem q1018 : (Jvm.Cond.fieldLink "java/lang/StringUTF16" (59 : Nat) "java/lang/StringUTF16" "HI_BYTE_SHIFT" "I") ∈ lw_all := lw_g (lw_at lw_m4 220 rfl) rfl
theorem q1019 : (Jvm.Cond.laysStatic "java/lang/StringUTF16" "HI_BYTE_SHIFT" "I") ∈ lw_tbl := lw_at lw_m4 221 rfl
theorem q1020 : (Jvm.Cond.fieldLink "java/lang/StringUTF16" (63 : Nat) "java/lang/StringUTF16" "LO_BYTE_SHIFT" "I") ∈ lw_all := lw_g (lw_at lw_m4 222 rfl) rfl
theorem q1021 : (Jvm.Cond.laysStatic "java/lang/StringUTF16" "LO_BYTE_SHIFT" "I") ∈ lw_tbl := lw_at lw_m4 223 rfl
/-! java/lang/Integer -/
set_option maxRecDepth 100000
def RJ12 : String := "java/lang/Integer"
abbrev cJ12_bitCount : ByteArray := prog_27_method_49_code
def yJ12_bitCount : MethodName := ⟨RJ12, "bitCount", "(I)I"⟩
def dkwJ12_bitCount_2 : List UInt8 := [26, 16, 63, 126, 172]
abbrev dktJ12_bitCount_2 : List UInt8 := dkwJ12_bitCount_2 ++ []
def dkwJ12_bitCount_1 : List UInt8 := [26, 26, 7, 124, 96, 19, 1, 11, 126, 59, 26, 26, 16, 8, 124, 96, 59, 26, 26, 16, 16, 124, 96, 59]
abbrev dktJ12_bitCount_1 : List UInt8 := dkwJ12_bitCount_1 ++ dktJ12_bitCount_2
def dkwJ12_bitCount_0 : List UInt8 := [26, 26, 4, 124, 19, 1, 9, 126, 100, 59, 26, 19, 1, 10, 126, 26, 5, 124, 19, 1, 10, 126, 96, 59]
abbrev dktJ12_bitCount_0 : List UInt8 := dkwJ12_bitCount_0 ++ dktJ12_bitCount_1
theorem dksJ12_bitCount_0 : cJ12_bitCount.data.toList.drop 0 = dktJ12_bitCount_0 := by decide +kernel
theorem dksJ12_bitCount_1 : cJ12_bitCount.data.toList.drop 24 = dktJ12_bitCount_1 := dk_seg dksJ12_bitCount_0 24 rfl rfl
theorem dksJ12_bitCount_2 : cJ12_bitCount.data.toList.drop 48 = dktJ12_bitCount_2 := dk_seg dksJ12_bitCount_1 24 rfl rfl
theorem dJ12_bitCount_0 : decode cJ12_bitCount 0 = .ok (.iload_n 0, 1) := dk_26 (dk_at dksJ12_bitCount_0 0 rfl rfl)
theorem dJ12_bitCount_1 : decode cJ12_bitCount 1 = .ok (.iload_n 0, 1) := dk_26 (dk_at dksJ12_bitCount_0 1 rfl rfl)
theorem dJ12_bitCount_2 : decode cJ12_bitCount 2 = .ok (.iconst 1, 1) := dk_4 (dk_at dksJ12_bitCount_0 2 rfl rfl)
theorem dJ12_bitCount_3 : decode cJ12_bitCount 3 = .ok (.iushr, 1) := dk_124 (dk_at dksJ12_bitCount_0 3 rfl rfl)
theorem dJ12_bitCount_4 : decode cJ12_bitCount 4 = .ok (.ldc_w 265, 3) := dk_19 1 9 (dk_at dksJ12_bitCount_0 4 rfl rfl)
theorem dJ12_bitCount_7 : decode cJ12_bitCount 7 = .ok (.iand, 1) := dk_126 (dk_at dksJ12_bitCount_0 7 rfl rfl)
theorem dJ12_bitCount_8 : decode cJ12_bitCount 8 = .ok (.isub, 1) := dk_100 (dk_at dksJ12_bitCount_0 8 rfl rfl)
theorem dJ12_bitCount_9 : decode cJ12_bitCount 9 = .ok (.istore_n 0, 1) := dk_59 (dk_at dksJ12_bitCount_0 9 rfl rfl)
theorem dJ12_bitCount_10 : decode cJ12_bitCount 10 = .ok (.iload_n 0, 1) := dk_26 (dk_at dksJ12_bitCount_0 10 rfl rfl)
theorem dJ12_bitCount_11 : decode cJ12_bitCount 11 = .ok (.ldc_w 266, 3) := dk_19 1 10 (dk_at dksJ12_bitCount_0 11 rfl rfl)
theorem dJ12_bitCount_14 : decode cJ12_bitCount 14 = .ok (.iand, 1) := dk_126 (dk_at dksJ12_bitCount_0 14 rfl rfl)
theorem dJ12_bitCount_15 : decode cJ12_bitCount 15 = .ok (.iload_n 0, 1) := dk_26 (dk_at dksJ12_bitCount_0 15 rfl rfl)
theorem dJ12_bitCount_16 : decode cJ12_bitCount 16 = .ok (.iconst 2, 1) := dk_5 (dk_at dksJ12_bitCount_0 16 rfl rfl)
theorem dJ12_bitCount_17 : decode cJ12_bitCount 17 = .ok (.iushr, 1) := dk_124 (dk_at dksJ12_bitCount_0 17 rfl rfl)
theorem dJ12_bitCount_18 : decode cJ12_bitCount 18 = .ok (.ldc_w 266, 3) := dk_19 1 10 (dk_at dksJ12_bitCount_0 18 rfl rfl)
theorem dJ12_bitCount_21 : decode cJ12_bitCount 21 = .ok (.iand, 1) := dk_126 (dk_at dksJ12_bitCount_0 21 rfl rfl)
theorem dJ12_bitCount_22 : decode cJ12_bitCount 22 = .ok (.iadd, 1) := dk_96 (dk_at dksJ12_bitCount_0 22 rfl rfl)
theorem dJ12_bitCount_23 : decode cJ12_bitCount 23 = .ok (.istore_n 0, 1) := dk_59 (dk_at dksJ12_bitCount_0 23 rfl rfl)
theorem dJ12_bitCount_24 : decode cJ12_bitCount 24 = .ok (.iload_n 0, 1) := dk_26 (dk_at dksJ12_bitCount_1 0 rfl rfl)
theorem dJ12_bitCount_25 : decode cJ12_bitCount 25 = .ok (.iload_n 0, 1) := dk_26 (dk_at dksJ12_bitCount_1 1 rfl rfl)
theorem dJ12_bitCount_26 : decode cJ12_bitCount 26 = .ok (.iconst 4, 1) := dk_7 (dk_at dksJ12_bitCount_1 2 rfl rfl)
theorem dJ12_bitCount_27 : decode cJ12_bitCount 27 = .ok (.iushr, 1) := dk_124 (dk_at dksJ12_bitCount_1 3 rfl rfl)
theorem dJ12_bitCount_28 : decode cJ12_bitCount 28 = .ok (.iadd, 1) := dk_96 (dk_at dksJ12_bitCount_1 4 rfl rfl)
theorem dJ12_bitCount_29 : decode cJ12_bitCount 29 = .ok (.ldc_w 267, 3) := dk_19 1 11 (dk_at dksJ12_bitCount_1 5 rfl rfl)
theorem dJ12_bitCount_32 : decode cJ12_bitCount 32 = .ok (.iand, 1) := dk_126 (dk_at dksJ12_bitCount_1 8 rfl rfl)
theorem dJ12_bitCount_33 : decode cJ12_bitCount 33 = .ok (.istore_n 0, 1) := dk_59 (dk_at dksJ12_bitCount_1 9 rfl rfl)
theorem dJ12_bitCount_34 : decode cJ12_bitCount 34 = .ok (.iload_n 0, 1) := dk_26 (dk_at dksJ12_bitCount_1 10 rfl rfl)
theorem dJ12_bitCount_35 : decode cJ12_bitCount 35 = .ok (.iload_n 0, 1) := dk_26 (dk_at dksJ12_bitCount_1 11 rfl rfl)
theorem dJ12_bitCount_36 : decode cJ12_bitCount 36 = .ok (.bipush 8, 2) := dk_16 8 (dk_at dksJ12_bitCount_1 12 rfl rfl)
theorem dJ12_bitCount_38 : decode cJ12_bitCount 38 = .ok (.iushr, 1) := dk_124 (dk_at dksJ12_bitCount_1 14 rfl rfl)
theorem dJ12_bitCount_39 : decode cJ12_bitCount 39 = .ok (.iadd, 1) := dk_96 (dk_at dksJ12_bitCount_1 15 rfl rfl)
theorem dJ12_bitCount_40 : decode cJ12_bitCount 40 = .ok (.istore_n 0, 1) := dk_59 (dk_at dksJ12_bitCount_1 16 rfl rfl)
theorem dJ12_bitCount_41 : decode cJ12_bitCount 41 = .ok (.iload_n 0, 1) := dk_26 (dk_at dksJ12_bitCount_1 17 rfl rfl)
theorem dJ12_bitCount_42 : decode cJ12_bitCount 42 = .ok (.iload_n 0, 1) := dk_26 (dk_at dksJ12_bitCount_1 18 rfl rfl)
theorem dJ12_bitCount_43 : decode cJ12_bitCount 43 = .ok (.bipush 16, 2) := dk_16 16 (dk_at dksJ12_bitCount_1 19 rfl rfl)
theorem dJ12_bitCount_45 : decode cJ12_bitCount 45 = .ok (.iushr, 1) := dk_124 (dk_at dksJ12_bitCount_1 21 rfl rfl)
theorem dJ12_bitCount_46 : decode cJ12_bitCount 46 = .ok (.iadd, 1) := dk_96 (dk_at dksJ12_bitCount_1 22 rfl rfl)
theorem dJ12_bitCount_47 : decode cJ12_bitCount 47 = .ok (.istore_n 0, 1) := dk_59 (dk_at dksJ12_bitCount_1 23 rfl rfl)
theorem dJ12_bitCount_48 : decode cJ12_bitCount 48 = .ok (.iload_n 0, 1) := dk_26 (dk_at dksJ12_bitCount_2 0 rfl rfl)
theorem dJ12_bitCount_49 : decode cJ12_bitCount 49 = .ok (.bipush 63, 2) := dk_16 63 (dk_at dksJ12_bitCount_2 1 rfl rfl)
theorem dJ12_bitCount_51 : decode cJ12_bitCount 51 = .ok (.iand, 1) := dk_126 (dk_at dksJ12_bitCount_2 3 rfl rfl)
theorem dJ12_bitCount_52 : decode cJ12_bitCount 52 = .ok (.ireturn, 1) := dk_172 (dk_at dksJ12_bitCount_2 4 rfl rfl)
theorem q113 : (Jvm.Cond.initialized "java/lang/Integer") ∈ lw_all := lw_g (lw_at lw_m1 35 rfl) rfl
theorem q1180 : (Jvm.Cond.static ({ cls := "java/lang/Integer", name := "bitCount", desc := "(I)I" } : Jvm.MethodName)) ∈ lw_all := lw_g (lw_at lw_m5 142 rfl) rfl
theorem q1181 : (Jvm.Cond.code ({ cls := "java/lang/Integer", name := "bitCount", desc := "(I)I" } : Jvm.MethodName) prog_27_method_49_code (1 : Nat) (Option.some Jvm.ClassFile.FieldType.int)) ∈ lw_all := lw_g (lw_at lw_m5 143 rfl) rfl
theorem q1182 : (Jvm.Cond.constant "java/lang/Integer" (265 : Nat) (1431655765 : Int32)) ∈ lw_all := lw_g (lw_at lw_m5 144 rfl) rfl
theorem q1183 : (Jvm.Cond.constant "java/lang/Integer" (266 : Nat) (858993459 : Int32)) ∈ lw_all := lw_g (lw_at lw_m5 145 rfl) rfl
theorem q1184 : (Jvm.Cond.constant "java/lang/Integer" (267 : Nat) (252645135 : Int32)) ∈ lw_all := lw_g (lw_at lw_m5 146 rfl) rfl
/-! java/lang/Object -/
set_option maxRecDepth 100000
def RJ13 : String := "java/lang/Object"
abbrev cJ13_init : ByteArray := object_method_1_code
def yJ13_init : MethodName := ⟨RJ13, "<init>", "()V"⟩
theorem dJ13_init_0 : decode cJ13_init 0 = .ok (.return_, 1) := by decide +kernel
theorem q120 : (Jvm.Cond.instanceMethod ({ cls := "java/lang/Object", name := "<init>", desc := "()V" } : Jvm.MethodName)) ∈ lw_all := lw_g (lw_at lw_m1 42 rfl) rfl
theorem q121 : (Jvm.Cond.code ({ cls := "java/lang/Object", name := "<init>", desc := "()V" } : Jvm.MethodName) object_method_1_code (1 : Nat) (Option.none : Option Jvm.ClassFile.FieldType)) ∈ lw_all := lw_g (lw_at lw_m1 43 rfl) rfl
