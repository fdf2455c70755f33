theorem q104 : (Jvm.Cond.initialized "FrameSheetsLaw") ∈ lw_all := lw_g (lw_at lw_m1 0 rfl) rfl
set_option maxRecDepth 100000
theorem q138 : (Jvm.Cond.classLink "FrameSheetsLaw" (7 : Nat) "FrameSheets") ∈ lw_all := lw_g (lw_at lw_m1 34 rfl) rfl
theorem q140 : (Jvm.Cond.methodLink "FrameSheetsLaw" (9 : Nat) ({ cls := "FrameSheets", name := "<init>", desc := "()V" } : Jvm.MethodName)) ∈ lw_all := lw_g (lw_at lw_m1 36 rfl) rfl
theorem q278 : (Jvm.Cond.methodLink "FrameSheetsLaw" (13 : Nat) ({ cls := "FrameSheets", name := "row", desc := "(II)I" } : Jvm.MethodName)) ∈ lw_all := lw_g (lw_at lw_m1 174 rfl) rfl
theorem q378 : (Jvm.Cond.methodLink "FrameSheetsLaw" (18 : Nat) ({ cls := "FrameSheets", name := "lay", desc := "(III)I" } : Jvm.MethodName)) ∈ lw_all := lw_g (lw_at lw_m2 34 rfl) rfl
theorem q434 : (Jvm.Cond.methodLink "FrameSheetsLaw" (23 : Nat) ({ cls := "FrameSheets", name := "at", desc := "(II)I" } : Jvm.MethodName)) ∈ lw_all := lw_g (lw_at lw_m2 90 rfl) rfl
theorem q435 : (Jvm.Cond.methodLink "FrameSheetsLaw" (27 : Nat) ({ cls := "FrameSheets", name := "tear", desc := "(I)I" } : Jvm.MethodName)) ∈ lw_all := lw_g (lw_at lw_m2 91 rfl) rfl
theorem q439 : (Jvm.Cond.methodLink "FrameSheetsLaw" (32 : Nat) ({ cls := "FrameSheets", name := "copy", desc := "(IIIII)I" } : Jvm.MethodName)) ∈ lw_all := lw_g (lw_at lw_m2 95 rfl) rfl
theorem q447 : (Jvm.Cond.methodLink "FrameSheetsLaw" (37 : Nat) ({ cls := "FrameSheets", name := "mean", desc := "(I)I" } : Jvm.MethodName)) ∈ lw_all := lw_g (lw_at lw_m2 103 rfl) rfl
theorem q465 : (Jvm.Cond.methodLink "FrameSheetsLaw" (41 : Nat) ({ cls := "FrameSheets", name := "text", desc := "(II)I" } : Jvm.MethodName)) ∈ lw_all := lw_g (lw_at lw_m2 121 rfl) rfl
theorem q472 : (Jvm.Cond.methodLink "FrameSheetsLaw" (45 : Nat) ({ cls := "FrameSheets", name := "put", desc := "(III)I" } : Jvm.MethodName)) ∈ lw_all := lw_g (lw_at lw_m2 128 rfl) rfl
theorem q476 : (Jvm.Cond.methodLink "FrameSheetsLaw" (49 : Nat) ({ cls := "FrameSheets", name := "fault", desc := "(I)I" } : Jvm.MethodName)) ∈ lw_all := lw_g (lw_at lw_m2 132 rfl) rfl
theorem q891 : (Jvm.Cond.methodLink "FrameSheetsLaw" (53 : Nat) ({ cls := "FrameSheets", name := "sheet", desc := "(I)I" } : Jvm.MethodName)) ∈ lw_all := lw_g (lw_at lw_m4 67 rfl) rfl
theorem q919 : (Jvm.Cond.methodLink "FrameSheetsLaw" (57 : Nat) ({ cls := "FrameSheets", name := "write", desc := "(I)I" } : Jvm.MethodName)) ∈ lw_all := lw_g (lw_at lw_m4 95 rfl) rfl
theorem q1051 : (Jvm.Cond.methodLink "FrameSheetsLaw" (61 : Nat) ({ cls := "FrameSheets", name := "frame", desc := "(II)I" } : Jvm.MethodName)) ∈ lw_all := lw_g (lw_at lw_m4 227 rfl) rfl
theorem q1144 : (Jvm.Cond.methodLink "FrameSheetsLaw" (65 : Nat) ({ cls := "FrameSheets", name := "place", desc := "(II)I" } : Jvm.MethodName)) ∈ lw_all := lw_g (lw_at lw_m5 80 rfl) rfl
theorem q1160 : (Jvm.Cond.methodLink "FrameSheetsLaw" (69 : Nat) ({ cls := "FrameSheets", name := "mark", desc := "(II)I" } : Jvm.MethodName)) ∈ lw_all := lw_g (lw_at lw_m5 96 rfl) rfl
theorem q1218 : (Jvm.Cond.methodLink "FrameSheetsLaw" (73 : Nat) ({ cls := "FrameSheets", name := "set", desc := "(I)I" } : Jvm.MethodName)) ∈ lw_all := lw_g (lw_at lw_m5 154 rfl) rfl
theorem q1371 : (Jvm.Cond.methodLink "FrameSheetsLaw" (77 : Nat) ({ cls := "FrameSheets", name := "lift", desc := "(I)I" } : Jvm.MethodName)) ∈ lw_all := lw_g (lw_at lw_m6 67 rfl) rfl
theorem q1379 : (Jvm.Cond.methodLink "FrameSheetsLaw" (81 : Nat) ({ cls := "FrameSheets", name := "all", desc := "(I)I" } : Jvm.MethodName)) ∈ lw_all := lw_g (lw_at lw_m6 75 rfl) rfl
theorem q1392 : (Jvm.Cond.methodLink "FrameSheetsLaw" (85 : Nat) ({ cls := "FrameSheets", name := "rule", desc := "(I)I" } : Jvm.MethodName)) ∈ lw_all := lw_g (lw_at lw_m6 88 rfl) rfl
theorem q1396 : (Jvm.Cond.methodLink "FrameSheetsLaw" (89 : Nat) ({ cls := "FrameSheets", name := "undo", desc := "(I)I" } : Jvm.MethodName)) ∈ lw_all := lw_g (lw_at lw_m6 92 rfl) rfl
theorem q1404 : (Jvm.Cond.methodLink "FrameSheetsLaw" (93 : Nat) ({ cls := "FrameSheets", name := "keep", desc := "(I)I" } : Jvm.MethodName)) ∈ lw_all := lw_g (lw_at lw_m6 100 rfl) rfl
theorem q1428 : (Jvm.Cond.methodLink "FrameSheetsLaw" (97 : Nat) ({ cls := "FrameSheets", name := "on", desc := "(I)I" } : Jvm.MethodName)) ∈ lw_all := lw_g (lw_at lw_m6 124 rfl) rfl
theorem q1432 : (Jvm.Cond.methodLink "FrameSheetsLaw" (101 : Nat) ({ cls := "FrameSheets", name := "free", desc := "(III)I" } : Jvm.MethodName)) ∈ lw_all := lw_g (lw_at lw_m6 128 rfl) rfl
theorem q1444 : (Jvm.Cond.methodLink "FrameSheetsLaw" (105 : Nat) ({ cls := "FrameSheets", name := "seen", desc := "(III)I" } : Jvm.MethodName)) ∈ lw_all := lw_g (lw_at lw_m6 140 rfl) rfl
theorem q1469 : (Jvm.Cond.methodLink "FrameSheetsLaw" (109 : Nat) ({ cls := "FrameSheets", name := "point", desc := "(III)I" } : Jvm.MethodName)) ∈ lw_all := lw_g (lw_at lw_m6 165 rfl) rfl
theorem q1473 : (Jvm.Cond.methodLink "FrameSheetsLaw" (113 : Nat) ({ cls := "FrameSheets", name := "used", desc := "(I)I" } : Jvm.MethodName)) ∈ lw_all := lw_g (lw_at lw_m6 169 rfl) rfl
theorem q1481 : (Jvm.Cond.methodLink "FrameSheetsLaw" (117 : Nat) ({ cls := "FrameSheets", name := "takes", desc := "(I)I" } : Jvm.MethodName)) ∈ lw_all := lw_g (lw_at lw_m6 177 rfl) rfl
theorem q1485 : (Jvm.Cond.methodLink "FrameSheetsLaw" (121 : Nat) ({ cls := "FrameSheets", name := "would", desc := "(II)I" } : Jvm.MethodName)) ∈ lw_all := lw_g (lw_at lw_m6 181 rfl) rfl
theorem q1493 : (Jvm.Cond.methodLink "FrameSheetsLaw" (125 : Nat) ({ cls := "FrameSheets", name := "best", desc := "()I" } : Jvm.MethodName)) ∈ lw_all := lw_g (lw_at lw_m6 189 rfl) rfl
theorem q1503 : (Jvm.Cond.methodLink "FrameSheetsLaw" (130 : Nat) ({ cls := "FrameSheets", name := "lots", desc := "(II)I" } : Jvm.MethodName)) ∈ lw_all := lw_g (lw_at lw_m6 199 rfl) rfl
theorem q1521 : (Jvm.Cond.methodLink "FrameSheetsLaw" (134 : Nat) ({ cls := "FrameSheets", name := "asked", desc := "()I" } : Jvm.MethodName)) ∈ lw_all := lw_g (lw_at lw_m6 217 rfl) rfl
theorem q1525 : (Jvm.Cond.methodLink "FrameSheetsLaw" (138 : Nat) ({ cls := "FrameSheets", name := "count", desc := "(I)I" } : Jvm.MethodName)) ∈ lw_all := lw_g (lw_at lw_m6 221 rfl) rfl
theorem q1549 : (Jvm.Cond.methodLink "FrameSheetsLaw" (142 : Nat) ({ cls := "FrameSheets", name := "finding", desc := "()I" } : Jvm.MethodName)) ∈ lw_all := lw_g (lw_at lw_m7 5 rfl) rfl
theorem q1553 : (Jvm.Cond.methodLink "FrameSheetsLaw" (146 : Nat) ({ cls := "FrameSheets", name := "findings", desc := "(I)I" } : Jvm.MethodName)) ∈ lw_all := lw_g (lw_at lw_m7 9 rfl) rfl
theorem q1557 : (Jvm.Cond.methodLink "FrameSheetsLaw" (150 : Nat) ({ cls := "FrameSheets", name := "digest", desc := "()J" } : Jvm.MethodName)) ∈ lw_all := lw_g (lw_at lw_m7 13 rfl) rfl
theorem q1571 : (Jvm.Cond.classLink "FrameSheetsLaw" (10 : Nat) "FrameSheetsModel") ∈ lw_all := lw_g (lw_at lw_m7 27 rfl) rfl
theorem q1573 : (Jvm.Cond.methodLink "FrameSheetsLaw" (12 : Nat) ({ cls := "FrameSheetsModel", name := "<init>", desc := "()V" } : Jvm.MethodName)) ∈ lw_all := lw_g (lw_at lw_m7 29 rfl) rfl
theorem q1713 : (Jvm.Cond.methodLink "FrameSheetsLaw" (137 : Nat) ({ cls := "FrameSheetsModel", name := "asked", desc := "()I" } : Jvm.MethodName)) ∈ lw_all := lw_g (lw_at lw_m7 169 rfl) rfl
theorem q1717 : (Jvm.Cond.methodLink "FrameSheetsLaw" (145 : Nat) ({ cls := "FrameSheetsModel", name := "finding", desc := "()I" } : Jvm.MethodName)) ∈ lw_all := lw_g (lw_at lw_m7 173 rfl) rfl
theorem q1721 : (Jvm.Cond.methodLink "FrameSheetsLaw" (149 : Nat) ({ cls := "FrameSheetsModel", name := "findings", desc := "(I)I" } : Jvm.MethodName)) ∈ lw_all := lw_g (lw_at lw_m7 177 rfl) rfl
theorem q1728 : (Jvm.Cond.methodLink "FrameSheetsLaw" (17 : Nat) ({ cls := "FrameSheetsModel", name := "row", desc := "(II)I" } : Jvm.MethodName)) ∈ lw_all := lw_g (lw_at lw_m7 184 rfl) rfl
theorem q1739 : (Jvm.Cond.methodLink "FrameSheetsLaw" (22 : Nat) ({ cls := "FrameSheetsModel", name := "lay", desc := "(III)I" } : Jvm.MethodName)) ∈ lw_all := lw_g (lw_at lw_m7 195 rfl) rfl
theorem q1751 : (Jvm.Cond.methodLink "FrameSheetsLaw" (26 : Nat) ({ cls := "FrameSheetsModel", name := "at", desc := "(II)I" } : Jvm.MethodName)) ∈ lw_all := lw_g (lw_at lw_m7 207 rfl) rfl
theorem q1755 : (Jvm.Cond.methodLink "FrameSheetsLaw" (31 : Nat) ({ cls := "FrameSheetsModel", name := "tear", desc := "(I)I" } : Jvm.MethodName)) ∈ lw_all := lw_g (lw_at lw_m7 211 rfl) rfl
theorem q1759 : (Jvm.Cond.methodLink "FrameSheetsLaw" (36 : Nat) ({ cls := "FrameSheetsModel", name := "copy", desc := "(IIIII)I" } : Jvm.MethodName)) ∈ lw_all := lw_g (lw_at lw_m7 215 rfl) rfl
theorem q1763 : (Jvm.Cond.methodLink "FrameSheetsLaw" (40 : Nat) ({ cls := "FrameSheetsModel", name := "mean", desc := "(I)I" } : Jvm.MethodName)) ∈ lw_all := lw_g (lw_at lw_m7 219 rfl) rfl
theorem q1767 : (Jvm.Cond.methodLink "FrameSheetsLaw" (44 : Nat) ({ cls := "FrameSheetsModel", name := "text", desc := "(II)I" } : Jvm.MethodName)) ∈ lw_all := lw_g (lw_at lw_m7 223 rfl) rfl
theorem q1774 : (Jvm.Cond.methodLink "FrameSheetsLaw" (48 : Nat) ({ cls := "FrameSheetsModel", name := "put", desc := "(III)I" } : Jvm.MethodName)) ∈ lw_all := lw_g (lw_at lw_m7 230 rfl) rfl
theorem q1778 : (Jvm.Cond.methodLink "FrameSheetsLaw" (52 : Nat) ({ cls := "FrameSheetsModel", name := "fault", desc := "(I)I" } : Jvm.MethodName)) ∈ lw_all := lw_g (lw_at lw_m7 234 rfl) rfl
theorem q1839 : (Jvm.Cond.methodLink "FrameSheetsLaw" (56 : Nat) ({ cls := "FrameSheetsModel", name := "sheet", desc := "(I)I" } : Jvm.MethodName)) ∈ lw_all := lw_g (lw_at lw_m8 55 rfl) rfl
theorem q1847 : (Jvm.Cond.methodLink "FrameSheetsLaw" (60 : Nat) ({ cls := "FrameSheetsModel", name := "write", desc := "(I)I" } : Jvm.MethodName)) ∈ lw_all := lw_g (lw_at lw_m8 63 rfl) rfl
theorem q1872 : (Jvm.Cond.methodLink "FrameSheetsLaw" (64 : Nat) ({ cls := "FrameSheetsModel", name := "frame", desc := "(II)I" } : Jvm.MethodName)) ∈ lw_all := lw_g (lw_at lw_m8 88 rfl) rfl
theorem q1908 : (Jvm.Cond.methodLink "FrameSheetsLaw" (68 : Nat) ({ cls := "FrameSheetsModel", name := "place", desc := "(II)I" } : Jvm.MethodName)) ∈ lw_all := lw_g (lw_at lw_m8 124 rfl) rfl
theorem q1916 : (Jvm.Cond.methodLink "FrameSheetsLaw" (72 : Nat) ({ cls := "FrameSheetsModel", name := "mark", desc := "(II)I" } : Jvm.MethodName)) ∈ lw_all := lw_g (lw_at lw_m8 132 rfl) rfl
theorem q1920 : (Jvm.Cond.methodLink "FrameSheetsLaw" (92 : Nat) ({ cls := "FrameSheetsModel", name := "undo", desc := "(I)I" } : Jvm.MethodName)) ∈ lw_all := lw_g (lw_at lw_m8 136 rfl) rfl
theorem q1924 : (Jvm.Cond.methodLink "FrameSheetsLaw" (96 : Nat) ({ cls := "FrameSheetsModel", name := "keep", desc := "(I)I" } : Jvm.MethodName)) ∈ lw_all := lw_g (lw_at lw_m8 140 rfl) rfl
theorem q1928 : (Jvm.Cond.methodLink "FrameSheetsLaw" (100 : Nat) ({ cls := "FrameSheetsModel", name := "on", desc := "(I)I" } : Jvm.MethodName)) ∈ lw_all := lw_g (lw_at lw_m8 144 rfl) rfl
theorem q1932 : (Jvm.Cond.methodLink "FrameSheetsLaw" (76 : Nat) ({ cls := "FrameSheetsModel", name := "set", desc := "(I)I" } : Jvm.MethodName)) ∈ lw_all := lw_g (lw_at lw_m8 148 rfl) rfl
theorem q1984 : (Jvm.Cond.methodLink "FrameSheetsLaw" (80 : Nat) ({ cls := "FrameSheetsModel", name := "lift", desc := "(I)I" } : Jvm.MethodName)) ∈ lw_all := lw_g (lw_at lw_m8 200 rfl) rfl
theorem q1992 : (Jvm.Cond.methodLink "FrameSheetsLaw" (84 : Nat) ({ cls := "FrameSheetsModel", name := "all", desc := "(I)I" } : Jvm.MethodName)) ∈ lw_all := lw_g (lw_at lw_m8 208 rfl) rfl
theorem q2007 : (Jvm.Cond.methodLink "FrameSheetsLaw" (88 : Nat) ({ cls := "FrameSheetsModel", name := "rule", desc := "(I)I" } : Jvm.MethodName)) ∈ lw_all := lw_g (lw_at lw_m8 223 rfl) rfl
theorem q2011 : (Jvm.Cond.methodLink "FrameSheetsLaw" (104 : Nat) ({ cls := "FrameSheetsModel", name := "free", desc := "(III)I" } : Jvm.MethodName)) ∈ lw_all := lw_g (lw_at lw_m8 227 rfl) rfl
theorem q2019 : (Jvm.Cond.methodLink "FrameSheetsLaw" (108 : Nat) ({ cls := "FrameSheetsModel", name := "seen", desc := "(III)I" } : Jvm.MethodName)) ∈ lw_all := lw_g (lw_at lw_m8 235 rfl) rfl
theorem q2034 : (Jvm.Cond.methodLink "FrameSheetsLaw" (112 : Nat) ({ cls := "FrameSheetsModel", name := "point", desc := "(III)I" } : Jvm.MethodName)) ∈ lw_all := lw_g (lw_at lw_m9 10 rfl) rfl
theorem q2038 : (Jvm.Cond.methodLink "FrameSheetsLaw" (116 : Nat) ({ cls := "FrameSheetsModel", name := "used", desc := "(I)I" } : Jvm.MethodName)) ∈ lw_all := lw_g (lw_at lw_m9 14 rfl) rfl
theorem q2046 : (Jvm.Cond.methodLink "FrameSheetsLaw" (120 : Nat) ({ cls := "FrameSheetsModel", name := "takes", desc := "(I)I" } : Jvm.MethodName)) ∈ lw_all := lw_g (lw_at lw_m9 22 rfl) rfl
theorem q2050 : (Jvm.Cond.methodLink "FrameSheetsLaw" (124 : Nat) ({ cls := "FrameSheetsModel", name := "would", desc := "(II)I" } : Jvm.MethodName)) ∈ lw_all := lw_g (lw_at lw_m9 26 rfl) rfl
theorem q2058 : (Jvm.Cond.methodLink "FrameSheetsLaw" (129 : Nat) ({ cls := "FrameSheetsModel", name := "best", desc := "()I" } : Jvm.MethodName)) ∈ lw_all := lw_g (lw_at lw_m9 34 rfl) rfl
theorem q2065 : (Jvm.Cond.methodLink "FrameSheetsLaw" (133 : Nat) ({ cls := "FrameSheetsModel", name := "lots", desc := "(II)I" } : Jvm.MethodName)) ∈ lw_all := lw_g (lw_at lw_m9 41 rfl) rfl
theorem q2079 : (Jvm.Cond.methodLink "FrameSheetsLaw" (141 : Nat) ({ cls := "FrameSheetsModel", name := "count", desc := "(I)I" } : Jvm.MethodName)) ∈ lw_all := lw_g (lw_at lw_m9 55 rfl) rfl
theorem q2095 : (Jvm.Cond.methodLink "FrameSheetsLaw" (154 : Nat) ({ cls := "FrameSheetsModel", name := "digest", desc := "()J" } : Jvm.MethodName)) ∈ lw_all := lw_g (lw_at lw_m9 71 rfl) rfl

theorem q566 : (Jvm.Cond.sameMethod "[B" "java/lang/Object" "clone" "()Ljava/lang/Object;") ∈ lw_all := lw_g (lw_at lw_m2 222 rfl) rfl
set_option maxRecDepth 100000
theorem q569 : (Jvm.Cond.selects "[B" ({ cls := "[B", name := "clone", desc := "()Ljava/lang/Object;" } : Jvm.MethodName) ({ cls := "java/lang/Object", name := "clone", desc := "()Ljava/lang/Object;" } : Jvm.MethodName)) ∈ lw_all := lw_g (lw_at lw_m2 225 rfl) rfl
theorem q570 : (Jvm.Cond.castable "[B" "java/lang/Cloneable") ∈ lw_tbl := lw_at lw_m2 226 rfl

theorem q773 : (Jvm.Cond.interfaceMethod "java/lang/CharSequence" "java/lang/CharSequence" "toString" "()Ljava/lang/String;") ∈ lw_tbl := lw_at lw_m3 189 rfl
set_option maxRecDepth 100000
theorem q774 : (Jvm.Cond.declares ({ cls := "java/lang/CharSequence", name := "toString", desc := "()Ljava/lang/String;" } : Jvm.MethodName)) ∈ lw_tbl := lw_at lw_m3 190 rfl

theorem q133 : (Jvm.Cond.initialized "java/lang/Number") ∈ lw_all := lw_g (lw_at lw_m1 29 rfl) rfl
set_option maxRecDepth 100000

theorem q116 : (Jvm.Cond.initialized "java/lang/System") ∈ lw_all := lw_g (lw_at lw_m1 12 rfl) rfl
set_option maxRecDepth 100000
theorem q445 : (Jvm.Cond.static ({ cls := "java/lang/System", name := "arraycopy", desc := "(Ljava/lang/Object;ILjava/lang/Object;II)V" } : Jvm.MethodName)) ∈ lw_all := lw_g (lw_at lw_m2 101 rfl) rfl
theorem q446 : (Jvm.Cond.native ({ cls := "java/lang/System", name := "arraycopy", desc := "(Ljava/lang/Object;ILjava/lang/Object;II)V" } : Jvm.MethodName)) ∈ lw_all := lw_g (lw_at lw_m2 102 rfl) rfl

theorem q712 : (Jvm.Cond.interfaceMethod "jdk/internal/access/JavaLangAccess" "jdk/internal/access/JavaLangAccess" "getUTF16Char" "([BI)C") ∈ lw_tbl := lw_at lw_m3 128 rfl
set_option maxRecDepth 100000
theorem q713 : (Jvm.Cond.declares ({ cls := "jdk/internal/access/JavaLangAccess", name := "getUTF16Char", desc := "([BI)C" } : Jvm.MethodName)) ∈ lw_tbl := lw_at lw_m3 129 rfl

theorem q147 : (Jvm.Cond.arrayOver (Jvm.ClassFile.FieldType.array Jvm.ClassFile.FieldType.int)) ∈ lw_tbl := lw_at lw_m1 43 rfl
set_option maxRecDepth 100000
theorem q149 : (Jvm.Cond.arrayOver (Jvm.ClassFile.FieldType.array Jvm.ClassFile.FieldType.byte)) ∈ lw_tbl := lw_at lw_m1 45 rfl
theorem q151 : (Jvm.Cond.arrayOver (Jvm.ClassFile.FieldType.object "FrameSheets$Frame")) ∈ lw_tbl := lw_at lw_m1 47 rfl
theorem q159 : (Jvm.Cond.arrayClass Jvm.ClassFile.FieldType.int) ∈ lw_all := lw_g (lw_at lw_m1 55 rfl) rfl
theorem q161 : (Jvm.Cond.arrayOver (Jvm.ClassFile.FieldType.object "FrameSheets$Kept")) ∈ lw_tbl := lw_at lw_m1 57 rfl
theorem q277 : (Jvm.Cond.arrayClass Jvm.ClassFile.FieldType.boolean) ∈ lw_all := lw_g (lw_at lw_m1 173 rfl) rfl
theorem q363 : (Jvm.Cond.arrayClass Jvm.ClassFile.FieldType.byte) ∈ lw_all := lw_g (lw_at lw_m2 19 rfl) rfl
theorem q2142 : (Jvm.Cond.arrayClass Jvm.ClassFile.FieldType.char) ∈ lw_all := lw_g (lw_at lw_m9 118 rfl) rfl
theorem q2143 : (Jvm.Cond.arrayClass Jvm.ClassFile.FieldType.short) ∈ lw_all := lw_g (lw_at lw_m9 119 rfl) rfl

