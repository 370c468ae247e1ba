set_option maxRecDepth 100000
theorem q61 : (Jvm.Cond.initialized "PickleHouseLaw") ∈ lw_all := lw_g (lw_at lw_m1 0 rfl) rfl
theorem q99 : (Jvm.Cond.classLink "PickleHouseLaw" (8 : Nat) "PickleHouse") ∈ lw_all := lw_g (lw_at lw_m1 38 rfl) rfl
theorem q101 : (Jvm.Cond.methodLink "PickleHouseLaw" (15 : Nat) ({ cls := "PickleHouse", name := "<init>", desc := "()V" } : Jvm.MethodName)) ∈ lw_all := lw_g (lw_at lw_m1 40 rfl) rfl
theorem q272 : (Jvm.Cond.methodLink "PickleHouseLaw" (19 : Nat) ({ cls := "PickleHouse", name := "lot", desc := "(I)I" } : Jvm.MethodName)) ∈ lw_all := lw_g (lw_at lw_m1 211 rfl) rfl
theorem q280 : (Jvm.Cond.methodLink "PickleHouseLaw" (24 : Nat) ({ cls := "PickleHouse", name := "crock", desc := "(II)I" } : Jvm.MethodName)) ∈ lw_all := lw_g (lw_at lw_m1 219 rfl) rfl
theorem q432 : (Jvm.Cond.methodLink "PickleHouseLaw" (28 : Nat) ({ cls := "PickleHouse", name := "put", desc := "(III)I" } : Jvm.MethodName)) ∈ lw_all := lw_g (lw_at lw_m2 131 rfl) rfl
theorem q446 : (Jvm.Cond.methodLink "PickleHouseLaw" (33 : Nat) ({ cls := "PickleHouse", name := "warmth", desc := "(III)Z" } : Jvm.MethodName)) ∈ lw_all := lw_g (lw_at lw_m2 145 rfl) rfl
theorem q450 : (Jvm.Cond.methodLink "PickleHouseLaw" (38 : Nat) ({ cls := "PickleHouse", name := "hours", desc := "(I)I" } : Jvm.MethodName)) ∈ lw_all := lw_g (lw_at lw_m2 149 rfl) rfl
theorem q565 : (Jvm.Cond.methodLink "PickleHouseLaw" (42 : Nat) ({ cls := "PickleHouse", name := "test", desc := "(III)I" } : Jvm.MethodName)) ∈ lw_all := lw_g (lw_at lw_m3 24 rfl) rfl
theorem q587 : (Jvm.Cond.methodLink "PickleHouseLaw" (46 : Nat) ({ cls := "PickleHouse", name := "span", desc := "(IIII)I" } : Jvm.MethodName)) ∈ lw_all := lw_g (lw_at lw_m3 46 rfl) rfl
theorem q591 : (Jvm.Cond.methodLink "PickleHouseLaw" (51 : Nat) ({ cls := "PickleHouse", name := "crockOf", desc := "(II)I" } : Jvm.MethodName)) ∈ lw_all := lw_g (lw_at lw_m3 50 rfl) rfl
theorem q599 : (Jvm.Cond.methodLink "PickleHouseLaw" (65 : Nat) ({ cls := "PickleHouse", name := "feed", desc := "(IIIII)I" } : Jvm.MethodName)) ∈ lw_all := lw_g (lw_at lw_m3 58 rfl) rfl
theorem q603 : (Jvm.Cond.methodLink "PickleHouseLaw" (70 : Nat) ({ cls := "PickleHouse", name := "end", desc := "(I)I" } : Jvm.MethodName)) ∈ lw_all := lw_g (lw_at lw_m3 62 rfl) rfl
theorem q607 : (Jvm.Cond.methodLink "PickleHouseLaw" (74 : Nat) ({ cls := "PickleHouse", name := "recipe", desc := "(I)I" } : Jvm.MethodName)) ∈ lw_all := lw_g (lw_at lw_m3 66 rfl) rfl
theorem q1136 : (Jvm.Cond.methodLink "PickleHouseLaw" (78 : Nat) ({ cls := "PickleHouse", name := "place", desc := "()I" } : Jvm.MethodName)) ∈ lw_all := lw_g (lw_at lw_m5 115 rfl) rfl
theorem q1140 : (Jvm.Cond.methodLink "PickleHouseLaw" (82 : Nat) ({ cls := "PickleHouse", name := "pour", desc := "(II)I" } : Jvm.MethodName)) ∈ lw_all := lw_g (lw_at lw_m5 119 rfl) rfl
theorem q1155 : (Jvm.Cond.methodLink "PickleHouseLaw" (86 : Nat) ({ cls := "PickleHouse", name := "limits", desc := "(II)Z" } : Jvm.MethodName)) ∈ lw_all := lw_g (lw_at lw_m5 134 rfl) rfl
theorem q1159 : (Jvm.Cond.methodLink "PickleHouseLaw" (91 : Nat) ({ cls := "PickleHouse", name := "jar", desc := "(II)I" } : Jvm.MethodName)) ∈ lw_all := lw_g (lw_at lw_m5 138 rfl) rfl
theorem q1178 : (Jvm.Cond.methodLink "PickleHouseLaw" (95 : Nat) ({ cls := "PickleHouse", name := "inJar", desc := "(II)I" } : Jvm.MethodName)) ∈ lw_all := lw_g (lw_at lw_m5 157 rfl) rfl
theorem q1182 : (Jvm.Cond.methodLink "PickleHouseLaw" (99 : Nat) ({ cls := "PickleHouse", name := "called", desc := "(I)I" } : Jvm.MethodName)) ∈ lw_all := lw_g (lw_at lw_m5 161 rfl) rfl
theorem q1186 : (Jvm.Cond.methodLink "PickleHouseLaw" (103 : Nat) ({ cls := "PickleHouse", name := "order", desc := "(IIII)I" } : Jvm.MethodName)) ∈ lw_all := lw_g (lw_at lw_m5 165 rfl) rfl
theorem q1190 : (Jvm.Cond.methodLink "PickleHouseLaw" (107 : Nat) ({ cls := "PickleHouse", name := "clear", desc := "()I" } : Jvm.MethodName)) ∈ lw_all := lw_g (lw_at lw_m5 169 rfl) rfl
theorem q1194 : (Jvm.Cond.methodLink "PickleHouseLaw" (111 : Nat) ({ cls := "PickleHouse", name := "meets", desc := "(II)I" } : Jvm.MethodName)) ∈ lw_all := lw_g (lw_at lw_m5 173 rfl) rfl
theorem q1202 : (Jvm.Cond.methodLink "PickleHouseLaw" (115 : Nat) ({ cls := "PickleHouse", name := "plan", desc := "()I" } : Jvm.MethodName)) ∈ lw_all := lw_g (lw_at lw_m5 181 rfl) rfl
theorem q1214 : (Jvm.Cond.methodLink "PickleHouseLaw" (119 : Nat) ({ cls := "PickleHouse", name := "planned", desc := "(I)I" } : Jvm.MethodName)) ∈ lw_all := lw_g (lw_at lw_m5 193 rfl) rfl
theorem q1218 : (Jvm.Cond.methodLink "PickleHouseLaw" (123 : Nat) ({ cls := "PickleHouse", name := "count", desc := "(I)I" } : Jvm.MethodName)) ∈ lw_all := lw_g (lw_at lw_m5 197 rfl) rfl
theorem q1255 : (Jvm.Cond.methodLink "PickleHouseLaw" (55 : Nat) ({ cls := "PickleHouseLaw", name := "part", desc := "(LPickleHouse;II[J)I" } : Jvm.MethodName)) ∈ lw_all := lw_g (lw_at lw_m5 234 rfl) rfl
theorem q1256 : (Jvm.Cond.static ({ cls := "PickleHouseLaw", name := "part", desc := "(LPickleHouse;II[J)I" } : Jvm.MethodName)) ∈ lw_all := lw_g (lw_at lw_m5 235 rfl) rfl
theorem q1257 : (Jvm.Cond.codeWith ({ cls := "PickleHouseLaw", name := "part", desc := "(LPickleHouse;II[J)I" } : Jvm.MethodName) method_3_code (5 : Nat) (Option.some Jvm.ClassFile.FieldType.int) [((0 : Nat), (10 : Nat), (13 : Nat), (13 : Nat))]) ∈ lw_all := lw_g (lw_at lw_m5 236 rfl) rfl
theorem q1258 : (Jvm.Cond.classLink "PickleHouseLaw" (13 : Nat) "java/util/NoSuchElementException") ∈ lw_all := lw_g (lw_at lw_m5 237 rfl) rfl
theorem q1259 : (Jvm.Cond.methodLink "PickleHouseLaw" (7 : Nat) ({ cls := "PickleHouse", name := "part", desc := "(II)I" } : Jvm.MethodName)) ∈ lw_all := lw_g (lw_at lw_m5 238 rfl) rfl
theorem q1286 : (Jvm.Cond.classLink "PickleHouseLaw" (16 : Nat) "PickleHouseModel") ∈ lw_all := lw_g (lw_at lw_m6 25 rfl) rfl
theorem q1288 : (Jvm.Cond.methodLink "PickleHouseLaw" (18 : Nat) ({ cls := "PickleHouseModel", name := "<init>", desc := "()V" } : Jvm.MethodName)) ∈ lw_all := lw_g (lw_at lw_m6 27 rfl) rfl
theorem q1455 : (Jvm.Cond.methodLink "PickleHouseLaw" (61 : Nat) ({ cls := "PickleHouseModel", name := "thrown", desc := "()I" } : Jvm.MethodName)) ∈ lw_all := lw_g (lw_at lw_m6 194 rfl) rfl
theorem q1459 : (Jvm.Cond.methodLink "PickleHouseLaw" (23 : Nat) ({ cls := "PickleHouseModel", name := "lot", desc := "(I)I" } : Jvm.MethodName)) ∈ lw_all := lw_g (lw_at lw_m6 198 rfl) rfl
theorem q1467 : (Jvm.Cond.methodLink "PickleHouseLaw" (27 : Nat) ({ cls := "PickleHouseModel", name := "crock", desc := "(II)I" } : Jvm.MethodName)) ∈ lw_all := lw_g (lw_at lw_m6 206 rfl) rfl
theorem q1475 : (Jvm.Cond.methodLink "PickleHouseLaw" (32 : Nat) ({ cls := "PickleHouseModel", name := "put", desc := "(III)I" } : Jvm.MethodName)) ∈ lw_all := lw_g (lw_at lw_m6 214 rfl) rfl
theorem q1491 : (Jvm.Cond.methodLink "PickleHouseLaw" (60 : Nat) ({ cls := "PickleHouseModel", name := "part", desc := "(II)I" } : Jvm.MethodName)) ∈ lw_all := lw_g (lw_at lw_m6 230 rfl) rfl
theorem q1495 : (Jvm.Cond.methodLink "PickleHouseLaw" (37 : Nat) ({ cls := "PickleHouseModel", name := "warmth", desc := "(III)Z" } : Jvm.MethodName)) ∈ lw_all := lw_g (lw_at lw_m6 234 rfl) rfl
theorem q1499 : (Jvm.Cond.methodLink "PickleHouseLaw" (45 : Nat) ({ cls := "PickleHouseModel", name := "test", desc := "(III)I" } : Jvm.MethodName)) ∈ lw_all := lw_g (lw_at lw_m6 238 rfl) rfl
theorem q1503 : (Jvm.Cond.methodLink "PickleHouseLaw" (50 : Nat) ({ cls := "PickleHouseModel", name := "span", desc := "(IIII)I" } : Jvm.MethodName)) ∈ lw_all := lw_g (lw_at lw_m7 2 rfl) rfl
theorem q1515 : (Jvm.Cond.methodLink "PickleHouseLaw" (69 : Nat) ({ cls := "PickleHouseModel", name := "feed", desc := "(IIIII)I" } : Jvm.MethodName)) ∈ lw_all := lw_g (lw_at lw_m7 14 rfl) rfl
theorem q1519 : (Jvm.Cond.methodLink "PickleHouseLaw" (73 : Nat) ({ cls := "PickleHouseModel", name := "end", desc := "(I)I" } : Jvm.MethodName)) ∈ lw_all := lw_g (lw_at lw_m7 18 rfl) rfl
theorem q1523 : (Jvm.Cond.methodLink "PickleHouseLaw" (77 : Nat) ({ cls := "PickleHouseModel", name := "recipe", desc := "(I)I" } : Jvm.MethodName)) ∈ lw_all := lw_g (lw_at lw_m7 22 rfl) rfl
theorem q1578 : (Jvm.Cond.methodLink "PickleHouseLaw" (81 : Nat) ({ cls := "PickleHouseModel", name := "place", desc := "()I" } : Jvm.MethodName)) ∈ lw_all := lw_g (lw_at lw_m7 77 rfl) rfl
theorem q1582 : (Jvm.Cond.methodLink "PickleHouseLaw" (41 : Nat) ({ cls := "PickleHouseModel", name := "hours", desc := "(I)I" } : Jvm.MethodName)) ∈ lw_all := lw_g (lw_at lw_m7 81 rfl) rfl
theorem q1622 : (Jvm.Cond.methodLink "PickleHouseLaw" (85 : Nat) ({ cls := "PickleHouseModel", name := "pour", desc := "(II)I" } : Jvm.MethodName)) ∈ lw_all := lw_g (lw_at lw_m7 121 rfl) rfl
theorem q1626 : (Jvm.Cond.methodLink "PickleHouseLaw" (90 : Nat) ({ cls := "PickleHouseModel", name := "limits", desc := "(II)Z" } : Jvm.MethodName)) ∈ lw_all := lw_g (lw_at lw_m7 125 rfl) rfl
theorem q1630 : (Jvm.Cond.methodLink "PickleHouseLaw" (94 : Nat) ({ cls := "PickleHouseModel", name := "jar", desc := "(II)I" } : Jvm.MethodName)) ∈ lw_all := lw_g (lw_at lw_m7 129 rfl) rfl
theorem q1646 : (Jvm.Cond.methodLink "PickleHouseLaw" (98 : Nat) ({ cls := "PickleHouseModel", name := "inJar", desc := "(II)I" } : Jvm.MethodName)) ∈ lw_all := lw_g (lw_at lw_m7 145 rfl) rfl
theorem q1650 : (Jvm.Cond.methodLink "PickleHouseLaw" (102 : Nat) ({ cls := "PickleHouseModel", name := "called", desc := "(I)I" } : Jvm.MethodName)) ∈ lw_all := lw_g (lw_at lw_m7 149 rfl) rfl
theorem q1654 : (Jvm.Cond.methodLink "PickleHouseLaw" (106 : Nat) ({ cls := "PickleHouseModel", name := "order", desc := "(IIII)I" } : Jvm.MethodName)) ∈ lw_all := lw_g (lw_at lw_m7 153 rfl) rfl
theorem q1658 : (Jvm.Cond.methodLink "PickleHouseLaw" (110 : Nat) ({ cls := "PickleHouseModel", name := "clear", desc := "()I" } : Jvm.MethodName)) ∈ lw_all := lw_g (lw_at lw_m7 157 rfl) rfl
theorem q1662 : (Jvm.Cond.methodLink "PickleHouseLaw" (114 : Nat) ({ cls := "PickleHouseModel", name := "meets", desc := "(II)I" } : Jvm.MethodName)) ∈ lw_all := lw_g (lw_at lw_m7 161 rfl) rfl
theorem q1670 : (Jvm.Cond.methodLink "PickleHouseLaw" (118 : Nat) ({ cls := "PickleHouseModel", name := "plan", desc := "()I" } : Jvm.MethodName)) ∈ lw_all := lw_g (lw_at lw_m7 169 rfl) rfl
theorem q1682 : (Jvm.Cond.methodLink "PickleHouseLaw" (122 : Nat) ({ cls := "PickleHouseModel", name := "planned", desc := "(I)I" } : Jvm.MethodName)) ∈ lw_all := lw_g (lw_at lw_m7 181 rfl) rfl
theorem q1686 : (Jvm.Cond.methodLink "PickleHouseLaw" (54 : Nat) ({ cls := "PickleHouseModel", name := "crockOf", desc := "(II)I" } : Jvm.MethodName)) ∈ lw_all := lw_g (lw_at lw_m7 185 rfl) rfl
theorem q1690 : (Jvm.Cond.methodLink "PickleHouseLaw" (126 : Nat) ({ cls := "PickleHouseModel", name := "count", desc := "(I)I" } : Jvm.MethodName)) ∈ lw_all := lw_g (lw_at lw_m7 189 rfl) rfl
theorem q62 : (Jvm.Cond.initialized "PickleHouse") ∈ lw_all := lw_g (lw_at lw_m1 1 rfl) rfl
theorem q100 : (Jvm.Cond.instantiable "PickleHouse" (28 : Nat)) ∈ lw_all := lw_g (lw_at lw_m1 39 rfl) rfl
theorem q102 : (Jvm.Cond.instanceMethod ({ cls := "PickleHouse", name := "<init>", desc := "()V" } : Jvm.MethodName)) ∈ lw_all := lw_g (lw_at lw_m1 41 rfl) rfl
theorem q103 : (Jvm.Cond.code ({ cls := "PickleHouse", name := "<init>", desc := "()V" } : Jvm.MethodName) prog_1_method_2_code (5 : Nat) (Option.none : Option Jvm.ClassFile.FieldType)) ∈ lw_all := lw_g (lw_at lw_m1 42 rfl) rfl
theorem q104 : (Jvm.Cond.methodLink "PickleHouse" (1 : Nat) ({ cls := "java/lang/Object", name := "<init>", desc := "()V" } : Jvm.MethodName)) ∈ lw_all := lw_g (lw_at lw_m1 43 rfl) rfl
theorem q107 : (Jvm.Cond.classLink "PickleHouse" (16 : Nat) "[B") ∈ lw_all := lw_g (lw_at lw_m1 46 rfl) rfl
theorem q109 : (Jvm.Cond.classLink "PickleHouse" (22 : Nat) "java/util/ArrayList") ∈ lw_all := lw_g (lw_at lw_m1 48 rfl) rfl
theorem q111 : (Jvm.Cond.methodLink "PickleHouse" (24 : Nat) ({ cls := "java/util/ArrayList", name := "<init>", desc := "()V" } : Jvm.MethodName)) ∈ lw_all := lw_g (lw_at lw_m1 50 rfl) rfl
theorem q136 : (Jvm.Cond.stringRef "PickleHouse" (79 : Nat) "0 0 0 0 2 1 0 0 4 3 2 1 8 6 4 2 12 9 5 2 6 4 2 1 ") ∈ lw_tbl := lw_at lw_m1 75 rfl
theorem q137 : (Jvm.Cond.methodLink "PickleHouse" (81 : Nat) ({ cls := "java/lang/String", name := "length", desc := "()I" } : Jvm.MethodName)) ∈ lw_all := lw_g (lw_at lw_m1 76 rfl) rfl
theorem q147 : (Jvm.Cond.methodLink "PickleHouse" (87 : Nat) ({ cls := "java/lang/String", name := "charAt", desc := "(I)C" } : Jvm.MethodName)) ∈ lw_all := lw_g (lw_at lw_m1 86 rfl) rfl
theorem q185 : (Jvm.Cond.fieldLink "PickleHouse" (7 : Nat) "PickleHouse" "steps" "[I") ∈ lw_all := lw_g (lw_at lw_m1 124 rfl) rfl
theorem q186 : (Jvm.Cond.fieldLink "PickleHouse" (13 : Nat) "PickleHouse" "left" "[I") ∈ lw_all := lw_g (lw_at lw_m1 125 rfl) rfl
theorem q187 : (Jvm.Cond.fieldLink "PickleHouse" (18 : Nat) "PickleHouse" "warm" "[[B") ∈ lw_all := lw_g (lw_at lw_m1 126 rfl) rfl
theorem q188 : (Jvm.Cond.fieldLink "PickleHouse" (25 : Nat) "PickleHouse" "crocks" "Ljava/util/ArrayList;") ∈ lw_all := lw_g (lw_at lw_m1 127 rfl) rfl
theorem q189 : (Jvm.Cond.fieldLink "PickleHouse" (29 : Nat) "PickleHouse" "tests" "Ljava/util/ArrayList;") ∈ lw_all := lw_g (lw_at lw_m1 128 rfl) rfl
theorem q190 : (Jvm.Cond.fieldLink "PickleHouse" (32 : Nat) "PickleHouse" "recipes" "Ljava/util/ArrayList;") ∈ lw_all := lw_g (lw_at lw_m1 129 rfl) rfl
theorem q191 : (Jvm.Cond.fieldLink "PickleHouse" (35 : Nat) "PickleHouse" "jars" "Ljava/util/ArrayList;") ∈ lw_all := lw_g (lw_at lw_m1 130 rfl) rfl
theorem q192 : (Jvm.Cond.fieldLink "PickleHouse" (38 : Nat) "PickleHouse" "tape" "[B") ∈ lw_all := lw_g (lw_at lw_m1 131 rfl) rfl
theorem q193 : (Jvm.Cond.fieldLink "PickleHouse" (108 : Nat) "PickleHouse" "lots" "I") ∈ lw_all := lw_g (lw_at lw_m1 132 rfl) rfl
theorem q194 : (Jvm.Cond.fieldLink "PickleHouse" (117 : Nat) "PickleHouse" "now" "I") ∈ lw_all := lw_g (lw_at lw_m1 133 rfl) rfl
theorem q195 : (Jvm.Cond.fieldLink "PickleHouse" (242 : Nat) "PickleHouse" "taped" "I") ∈ lw_all := lw_g (lw_at lw_m1 134 rfl) rfl
theorem q196 : (Jvm.Cond.fieldLink "PickleHouse" (41 : Nat) "PickleHouse" "place" "I") ∈ lw_all := lw_g (lw_at lw_m1 135 rfl) rfl
theorem q197 : (Jvm.Cond.fieldLink "PickleHouse" (144 : Nat) "PickleHouse" "waste" "I") ∈ lw_all := lw_g (lw_at lw_m1 136 rfl) rfl
theorem q198 : (Jvm.Cond.fieldLink "PickleHouse" (232 : Nat) "PickleHouse" "limitLow" "I") ∈ lw_all := lw_g (lw_at lw_m1 137 rfl) rfl
theorem q199 : (Jvm.Cond.fieldLink "PickleHouse" (45 : Nat) "PickleHouse" "limitHigh" "I") ∈ lw_all := lw_g (lw_at lw_m1 138 rfl) rfl
theorem q200 : (Jvm.Cond.fieldLink "PickleHouse" (48 : Nat) "PickleHouse" "wasted" "[I") ∈ lw_all := lw_g (lw_at lw_m1 139 rfl) rfl
theorem q201 : (Jvm.Cond.fieldLink "PickleHouse" (51 : Nat) "PickleHouse" "wants" "[I") ∈ lw_all := lw_g (lw_at lw_m1 140 rfl) rfl
theorem q202 : (Jvm.Cond.fieldLink "PickleHouse" (54 : Nat) "PickleHouse" "wantLow" "[I") ∈ lw_all := lw_g (lw_at lw_m1 141 rfl) rfl
theorem q203 : (Jvm.Cond.fieldLink "PickleHouse" (57 : Nat) "PickleHouse" "wantHigh" "[I") ∈ lw_all := lw_g (lw_at lw_m1 142 rfl) rfl
theorem q204 : (Jvm.Cond.fieldLink "PickleHouse" (60 : Nat) "PickleHouse" "price" "[I") ∈ lw_all := lw_g (lw_at lw_m1 143 rfl) rfl
theorem q205 : (Jvm.Cond.fieldLink "PickleHouse" (63 : Nat) "PickleHouse" "tried" "[I") ∈ lw_all := lw_g (lw_at lw_m1 144 rfl) rfl
theorem q206 : (Jvm.Cond.fieldLink "PickleHouse" (66 : Nat) "PickleHouse" "best" "[I") ∈ lw_all := lw_g (lw_at lw_m1 145 rfl) rfl
theorem q207 : (Jvm.Cond.fieldLink "PickleHouse" (69 : Nat) "PickleHouse" "mayMeet" "[Z") ∈ lw_all := lw_g (lw_at lw_m1 146 rfl) rfl
theorem q208 : (Jvm.Cond.fieldLink "PickleHouse" (73 : Nat) "PickleHouse" "has" "[I") ∈ lw_all := lw_g (lw_at lw_m1 147 rfl) rfl
theorem q209 : (Jvm.Cond.fieldLink "PickleHouse" (76 : Nat) "PickleHouse" "behind" "[I") ∈ lw_all := lw_g (lw_at lw_m1 148 rfl) rfl
theorem q210 : (Jvm.Cond.fieldLink "PickleHouse" (281 : Nat) "PickleHouse" "orders" "I") ∈ lw_all := lw_g (lw_at lw_m1 149 rfl) rfl
theorem q211 : (Jvm.Cond.fieldLink "PickleHouse" (288 : Nat) "PickleHouse" "most" "I") ∈ lw_all := lw_g (lw_at lw_m1 150 rfl) rfl
theorem q212 : (Jvm.Cond.fieldLink "PickleHouse" (291 : Nat) "PickleHouse" "fewest" "I") ∈ lw_all := lw_g (lw_at lw_m1 151 rfl) rfl
theorem q213 : (Jvm.Cond.laysFinal "PickleHouse" "PickleHouse" "steps" "[I") ∈ lw_all := lw_g (lw_at lw_m1 152 rfl) rfl
theorem q214 : (Jvm.Cond.soleField "PickleHouse" "steps") ∈ lw_all := lw_g (lw_at lw_m1 153 rfl) rfl
theorem q215 : (Jvm.Cond.laysFinal "PickleHouse" "PickleHouse" "left" "[I") ∈ lw_all := lw_g (lw_at lw_m1 154 rfl) rfl
theorem q216 : (Jvm.Cond.soleField "PickleHouse" "left") ∈ lw_all := lw_g (lw_at lw_m1 155 rfl) rfl
theorem q217 : (Jvm.Cond.laysFinal "PickleHouse" "PickleHouse" "warm" "[[B") ∈ lw_all := lw_g (lw_at lw_m1 156 rfl) rfl
theorem q218 : (Jvm.Cond.soleField "PickleHouse" "warm") ∈ lw_all := lw_g (lw_at lw_m1 157 rfl) rfl
theorem q219 : (Jvm.Cond.laysFinal "PickleHouse" "PickleHouse" "crocks" "Ljava/util/ArrayList;") ∈ lw_all := lw_g (lw_at lw_m1 158 rfl) rfl
theorem q220 : (Jvm.Cond.soleField "PickleHouse" "crocks") ∈ lw_all := lw_g (lw_at lw_m1 159 rfl) rfl
theorem q221 : (Jvm.Cond.laysFinal "PickleHouse" "PickleHouse" "tests" "Ljava/util/ArrayList;") ∈ lw_all := lw_g (lw_at lw_m1 160 rfl) rfl
theorem q222 : (Jvm.Cond.soleField "PickleHouse" "tests") ∈ lw_all := lw_g (lw_at lw_m1 161 rfl) rfl
theorem q223 : (Jvm.Cond.laysFinal "PickleHouse" "PickleHouse" "recipes" "Ljava/util/ArrayList;") ∈ lw_all := lw_g (lw_at lw_m1 162 rfl) rfl
theorem q224 : (Jvm.Cond.soleField "PickleHouse" "recipes") ∈ lw_all := lw_g (lw_at lw_m1 163 rfl) rfl
theorem q225 : (Jvm.Cond.laysFinal "PickleHouse" "PickleHouse" "jars" "Ljava/util/ArrayList;") ∈ lw_all := lw_g (lw_at lw_m1 164 rfl) rfl
theorem q226 : (Jvm.Cond.soleField "PickleHouse" "jars") ∈ lw_all := lw_g (lw_at lw_m1 165 rfl) rfl
theorem q227 : (Jvm.Cond.laysFinal "PickleHouse" "PickleHouse" "tape" "[B") ∈ lw_all := lw_g (lw_at lw_m1 166 rfl) rfl
theorem q228 : (Jvm.Cond.soleField "PickleHouse" "tape") ∈ lw_all := lw_g (lw_at lw_m1 167 rfl) rfl
theorem q229 : (Jvm.Cond.lays "PickleHouse" "PickleHouse" "lots" "I") ∈ lw_all := lw_g (lw_at lw_m1 168 rfl) rfl
theorem q230 : (Jvm.Cond.soleField "PickleHouse" "lots") ∈ lw_all := lw_g (lw_at lw_m1 169 rfl) rfl
theorem q231 : (Jvm.Cond.lays "PickleHouse" "PickleHouse" "now" "I") ∈ lw_all := lw_g (lw_at lw_m1 170 rfl) rfl
theorem q232 : (Jvm.Cond.soleField "PickleHouse" "now") ∈ lw_all := lw_g (lw_at lw_m1 171 rfl) rfl
theorem q233 : (Jvm.Cond.lays "PickleHouse" "PickleHouse" "taped" "I") ∈ lw_all := lw_g (lw_at lw_m1 172 rfl) rfl
theorem q234 : (Jvm.Cond.soleField "PickleHouse" "taped") ∈ lw_all := lw_g (lw_at lw_m1 173 rfl) rfl
theorem q235 : (Jvm.Cond.lays "PickleHouse" "PickleHouse" "place" "I") ∈ lw_all := lw_g (lw_at lw_m1 174 rfl) rfl
theorem q236 : (Jvm.Cond.soleField "PickleHouse" "place") ∈ lw_all := lw_g (lw_at lw_m1 175 rfl) rfl
theorem q237 : (Jvm.Cond.lays "PickleHouse" "PickleHouse" "waste" "I") ∈ lw_all := lw_g (lw_at lw_m1 176 rfl) rfl
theorem q238 : (Jvm.Cond.soleField "PickleHouse" "waste") ∈ lw_all := lw_g (lw_at lw_m1 177 rfl) rfl
theorem q239 : (Jvm.Cond.lays "PickleHouse" "PickleHouse" "limitLow" "I") ∈ lw_all := lw_g (lw_at lw_m1 178 rfl) rfl
theorem q240 : (Jvm.Cond.soleField "PickleHouse" "limitLow") ∈ lw_all := lw_g (lw_at lw_m1 179 rfl) rfl
theorem q241 : (Jvm.Cond.lays "PickleHouse" "PickleHouse" "limitHigh" "I") ∈ lw_all := lw_g (lw_at lw_m1 180 rfl) rfl
theorem q242 : (Jvm.Cond.soleField "PickleHouse" "limitHigh") ∈ lw_all := lw_g (lw_at lw_m1 181 rfl) rfl
theorem q243 : (Jvm.Cond.laysFinal "PickleHouse" "PickleHouse" "wasted" "[I") ∈ lw_all := lw_g (lw_at lw_m1 182 rfl) rfl
theorem q244 : (Jvm.Cond.soleField "PickleHouse" "wasted") ∈ lw_all := lw_g (lw_at lw_m1 183 rfl) rfl
theorem q245 : (Jvm.Cond.laysFinal "PickleHouse" "PickleHouse" "wants" "[I") ∈ lw_all := lw_g (lw_at lw_m1 184 rfl) rfl
theorem q246 : (Jvm.Cond.soleField "PickleHouse" "wants") ∈ lw_all := lw_g (lw_at lw_m1 185 rfl) rfl
theorem q247 : (Jvm.Cond.laysFinal "PickleHouse" "PickleHouse" "wantLow" "[I") ∈ lw_all := lw_g (lw_at lw_m1 186 rfl) rfl
theorem q248 : (Jvm.Cond.soleField "PickleHouse" "wantLow") ∈ lw_all := lw_g (lw_at lw_m1 187 rfl) rfl
theorem q249 : (Jvm.Cond.laysFinal "PickleHouse" "PickleHouse" "wantHigh" "[I") ∈ lw_all := lw_g (lw_at lw_m1 188 rfl) rfl
theorem q250 : (Jvm.Cond.soleField "PickleHouse" "wantHigh") ∈ lw_all := lw_g (lw_at lw_m1 189 rfl) rfl
theorem q251 : (Jvm.Cond.laysFinal "PickleHouse" "PickleHouse" "price" "[I") ∈ lw_all := lw_g (lw_at lw_m1 190 rfl) rfl
theorem q252 : (Jvm.Cond.soleField "PickleHouse" "price") ∈ lw_all := lw_g (lw_at lw_m1 191 rfl) rfl
theorem q253 : (Jvm.Cond.laysFinal "PickleHouse" "PickleHouse" "tried" "[I") ∈ lw_all := lw_g (lw_at lw_m1 192 rfl) rfl
theorem q254 : (Jvm.Cond.soleField "PickleHouse" "tried") ∈ lw_all := lw_g (lw_at lw_m1 193 rfl) rfl
theorem q255 : (Jvm.Cond.laysFinal "PickleHouse" "PickleHouse" "best" "[I") ∈ lw_all := lw_g (lw_at lw_m1 194 rfl) rfl
theorem q256 : (Jvm.Cond.soleField "PickleHouse" "best") ∈ lw_all := lw_g (lw_at lw_m1 195 rfl) rfl
theorem q257 : (Jvm.Cond.laysFinal "PickleHouse" "PickleHouse" "mayMeet" "[Z") ∈ lw_all := lw_g (lw_at lw_m1 196 rfl) rfl
theorem q258 : (Jvm.Cond.soleField "PickleHouse" "mayMeet") ∈ lw_all := lw_g (lw_at lw_m1 197 rfl) rfl
theorem q259 : (Jvm.Cond.laysFinal "PickleHouse" "PickleHouse" "has" "[I") ∈ lw_all := lw_g (lw_at lw_m1 198 rfl) rfl
theorem q260 : (Jvm.Cond.soleField "PickleHouse" "has") ∈ lw_all := lw_g (lw_at lw_m1 199 rfl) rfl
theorem q261 : (Jvm.Cond.laysFinal "PickleHouse" "PickleHouse" "behind" "[I") ∈ lw_all := lw_g (lw_at lw_m1 200 rfl) rfl
theorem q262 : (Jvm.Cond.soleField "PickleHouse" "behind") ∈ lw_all := lw_g (lw_at lw_m1 201 rfl) rfl
theorem q263 : (Jvm.Cond.lays "PickleHouse" "PickleHouse" "orders" "I") ∈ lw_all := lw_g (lw_at lw_m1 202 rfl) rfl
theorem q264 : (Jvm.Cond.soleField "PickleHouse" "orders") ∈ lw_all := lw_g (lw_at lw_m1 203 rfl) rfl
theorem q265 : (Jvm.Cond.lays "PickleHouse" "PickleHouse" "most" "I") ∈ lw_all := lw_g (lw_at lw_m1 204 rfl) rfl
theorem q266 : (Jvm.Cond.soleField "PickleHouse" "most") ∈ lw_all := lw_g (lw_at lw_m1 205 rfl) rfl
theorem q267 : (Jvm.Cond.lays "PickleHouse" "PickleHouse" "fewest" "I") ∈ lw_all := lw_g (lw_at lw_m1 206 rfl) rfl
theorem q268 : (Jvm.Cond.soleField "PickleHouse" "fewest") ∈ lw_all := lw_g (lw_at lw_m1 207 rfl) rfl
theorem q269 : (Jvm.Cond.superclass "PickleHouse" "java/lang/Object") ∈ lw_all := lw_g (lw_at lw_m1 208 rfl) rfl
theorem q273 : (Jvm.Cond.instanceMethod ({ cls := "PickleHouse", name := "lot", desc := "(I)I" } : Jvm.MethodName)) ∈ lw_all := lw_g (lw_at lw_m1 212 rfl) rfl
theorem q274 : (Jvm.Cond.selects "PickleHouse" ({ cls := "PickleHouse", name := "lot", desc := "(I)I" } : Jvm.MethodName) ({ cls := "PickleHouse", name := "lot", desc := "(I)I" } : Jvm.MethodName)) ∈ lw_all := lw_g (lw_at lw_m1 213 rfl) rfl
theorem q275 : (Jvm.Cond.code ({ cls := "PickleHouse", name := "lot", desc := "(I)I" } : Jvm.MethodName) prog_1_method_4_code (2 : Nat) (Option.some Jvm.ClassFile.FieldType.int)) ∈ lw_all := lw_g (lw_at lw_m1 214 rfl) rfl
theorem q276 : (Jvm.Cond.constant "PickleHouse" (111 : Nat) (100000 : Int32)) ∈ lw_all := lw_g (lw_at lw_m1 215 rfl) rfl
theorem q277 : (Jvm.Cond.methodLink "PickleHouse" (94 : Nat) ({ cls := "PickleHouse", name := "in", desc := "(III)Z" } : Jvm.MethodName)) ∈ lw_all := lw_g (lw_at lw_m1 216 rfl) rfl
theorem q278 : (Jvm.Cond.static ({ cls := "PickleHouse", name := "in", desc := "(III)Z" } : Jvm.MethodName)) ∈ lw_all := lw_g (lw_at lw_m1 217 rfl) rfl
theorem q279 : (Jvm.Cond.code ({ cls := "PickleHouse", name := "in", desc := "(III)Z" } : Jvm.MethodName) prog_1_method_1_code (3 : Nat) (Option.some Jvm.ClassFile.FieldType.boolean)) ∈ lw_all := lw_g (lw_at lw_m1 218 rfl) rfl
theorem q281 : (Jvm.Cond.instanceMethod ({ cls := "PickleHouse", name := "crock", desc := "(II)I" } : Jvm.MethodName)) ∈ lw_all := lw_g (lw_at lw_m1 220 rfl) rfl
theorem q282 : (Jvm.Cond.selects "PickleHouse" ({ cls := "PickleHouse", name := "crock", desc := "(II)I" } : Jvm.MethodName) ({ cls := "PickleHouse", name := "crock", desc := "(II)I" } : Jvm.MethodName)) ∈ lw_all := lw_g (lw_at lw_m1 221 rfl) rfl
theorem q283 : (Jvm.Cond.code ({ cls := "PickleHouse", name := "crock", desc := "(II)I" } : Jvm.MethodName) prog_1_method_7_code (3 : Nat) (Option.some Jvm.ClassFile.FieldType.int)) ∈ lw_all := lw_g (lw_at lw_m1 222 rfl) rfl
theorem q284 : (Jvm.Cond.methodLink "PickleHouse" (91 : Nat) ({ cls := "java/util/ArrayList", name := "size", desc := "()I" } : Jvm.MethodName)) ∈ lw_all := lw_g (lw_at lw_m1 223 rfl) rfl
theorem q288 : (Jvm.Cond.methodLink "PickleHouse" (113 : Nat) ({ cls := "PickleHouse", name := "isFree", desc := "(I)Z" } : Jvm.MethodName)) ∈ lw_all := lw_g (lw_at lw_m1 227 rfl) rfl
theorem q289 : (Jvm.Cond.privateMethod ({ cls := "PickleHouse", name := "isFree", desc := "(I)Z" } : Jvm.MethodName)) ∈ lw_tbl := lw_at lw_m1 228 rfl
theorem q290 : (Jvm.Cond.instanceMethod ({ cls := "PickleHouse", name := "isFree", desc := "(I)Z" } : Jvm.MethodName)) ∈ lw_all := lw_g (lw_at lw_m1 229 rfl) rfl
theorem q291 : (Jvm.Cond.code ({ cls := "PickleHouse", name := "isFree", desc := "(I)Z" } : Jvm.MethodName) prog_1_method_5_code (3 : Nat) (Option.some Jvm.ClassFile.FieldType.boolean)) ∈ lw_all := lw_g (lw_at lw_m1 230 rfl) rfl
theorem q292 : (Jvm.Cond.methodLink "PickleHouse" (98 : Nat) ({ cls := "java/util/ArrayList", name := "get", desc := "(I)Ljava/lang/Object;" } : Jvm.MethodName)) ∈ lw_all := lw_g (lw_at lw_m1 231 rfl) rfl
theorem q304 : (Jvm.Cond.classLink "PickleHouse" (102 : Nat) "PickleHouse$Crock") ∈ lw_all := lw_g (lw_at lw_m2 3 rfl) rfl
theorem q305 : (Jvm.Cond.methodLink "PickleHouse" (104 : Nat) ({ cls := "PickleHouse$Crock", name := "isThere", desc := "()Z" } : Jvm.MethodName)) ∈ lw_all := lw_g (lw_at lw_m2 4 rfl) rfl
theorem q310 : (Jvm.Cond.methodLink "PickleHouse" (120 : Nat) ({ cls := "PickleHouse$Crock", name := "<init>", desc := "(IIII)V" } : Jvm.MethodName)) ∈ lw_all := lw_g (lw_at lw_m2 9 rfl) rfl
theorem q319 : (Jvm.Cond.fieldLinkNest "PickleHouse" (175 : Nat) "PickleHouse$Crock" "rates" "[B" "PickleHouse") ∈ lw_tbl := lw_at lw_m2 18 rfl
theorem q322 : (Jvm.Cond.fieldLinkNest "PickleHouse" (112 : Nat) "PickleHouse$Crock" "place" "I" "PickleHouse") ∈ lw_tbl := lw_at lw_m2 21 rfl
theorem q325 : (Jvm.Cond.fieldLinkNest "PickleHouse" (141 : Nat) "PickleHouse$Crock" "salt" "I" "PickleHouse") ∈ lw_tbl := lw_at lw_m2 24 rfl
theorem q327 : (Jvm.Cond.fieldLinkNest "PickleHouse" (181 : Nat) "PickleHouse$Crock" "gas" "I" "PickleHouse") ∈ lw_tbl := lw_at lw_m2 26 rfl
theorem q329 : (Jvm.Cond.fieldLinkNest "PickleHouse" (201 : Nat) "PickleHouse$Crock" "born" "I" "PickleHouse") ∈ lw_tbl := lw_at lw_m2 28 rfl
theorem q330 : (Jvm.Cond.fieldLinkNest "PickleHouse" (213 : Nat) "PickleHouse$Crock" "low" "I" "PickleHouse") ∈ lw_tbl := lw_at lw_m2 29 rfl
theorem q331 : (Jvm.Cond.fieldLinkNest "PickleHouse" (210 : Nat) "PickleHouse$Crock" "high" "I" "PickleHouse") ∈ lw_tbl := lw_at lw_m2 30 rfl
theorem q334 : (Jvm.Cond.fieldLinkNest "PickleHouse" (229 : Nat) "PickleHouse$Crock" "state" "I" "PickleHouse") ∈ lw_tbl := lw_at lw_m2 33 rfl
theorem q336 : (Jvm.Cond.fieldLinkNest "PickleHouse" (178 : Nat) "PickleHouse$Crock" "latest" "I" "PickleHouse") ∈ lw_tbl := lw_at lw_m2 35 rfl
theorem q338 : (Jvm.Cond.fieldLink "PickleHouse" (131 : Nat) "PickleHouse$Crock" "grams" "[I") ∈ lw_all := lw_g (lw_at lw_m2 37 rfl) rfl
theorem q340 : (Jvm.Cond.fieldLink "PickleHouse" (280 : Nat) "PickleHouse$Jar" "grams" "[I") ∈ lw_all := lw_g (lw_at lw_m2 39 rfl) rfl
theorem q365 : (Jvm.Cond.methodLink "PickleHouse" (123 : Nat) ({ cls := "java/util/ArrayList", name := "add", desc := "(Ljava/lang/Object;)Z" } : Jvm.MethodName)) ∈ lw_all := lw_g (lw_at lw_m2 64 rfl) rfl
theorem q397 : (Jvm.Cond.selects "PickleHouse" ({ cls := "java/lang/Object", name := "getClass", desc := "()Ljava/lang/Class;" } : Jvm.MethodName) ({ cls := "java/lang/Object", name := "getClass", desc := "()Ljava/lang/Class;" } : Jvm.MethodName)) ∈ lw_all := lw_g (lw_at lw_m2 96 rfl) rfl
theorem q433 : (Jvm.Cond.instanceMethod ({ cls := "PickleHouse", name := "put", desc := "(III)I" } : Jvm.MethodName)) ∈ lw_all := lw_g (lw_at lw_m2 132 rfl) rfl
theorem q434 : (Jvm.Cond.selects "PickleHouse" ({ cls := "PickleHouse", name := "put", desc := "(III)I" } : Jvm.MethodName) ({ cls := "PickleHouse", name := "put", desc := "(III)I" } : Jvm.MethodName)) ∈ lw_all := lw_g (lw_at lw_m2 133 rfl) rfl
theorem q435 : (Jvm.Cond.code ({ cls := "PickleHouse", name := "put", desc := "(III)I" } : Jvm.MethodName) prog_1_method_8_code (5 : Nat) (Option.some Jvm.ClassFile.FieldType.int)) ∈ lw_all := lw_g (lw_at lw_m2 134 rfl) rfl
theorem q436 : (Jvm.Cond.methodLink "PickleHouse" (127 : Nat) ({ cls := "PickleHouse", name := "there", desc := "(I)LPickleHouse$Crock;" } : Jvm.MethodName)) ∈ lw_all := lw_g (lw_at lw_m2 135 rfl) rfl
theorem q437 : (Jvm.Cond.privateMethod ({ cls := "PickleHouse", name := "there", desc := "(I)LPickleHouse$Crock;" } : Jvm.MethodName)) ∈ lw_tbl := lw_at lw_m2 136 rfl
theorem q438 : (Jvm.Cond.instanceMethod ({ cls := "PickleHouse", name := "there", desc := "(I)LPickleHouse$Crock;" } : Jvm.MethodName)) ∈ lw_all := lw_g (lw_at lw_m2 137 rfl) rfl
theorem q439 : (Jvm.Cond.code ({ cls := "PickleHouse", name := "there", desc := "(I)LPickleHouse$Crock;" } : Jvm.MethodName) prog_1_method_3_code (2 : Nat) (Option.some (Jvm.ClassFile.FieldType.object "PickleHouse$Crock"))) ∈ lw_all := lw_g (lw_at lw_m2 138 rfl) rfl
theorem q440 : (Jvm.Cond.methodLink "PickleHouse" (134 : Nat) ({ cls := "PickleHouse$Crock", name := "all", desc := "()I" } : Jvm.MethodName)) ∈ lw_all := lw_g (lw_at lw_m2 139 rfl) rfl
theorem q447 : (Jvm.Cond.instanceMethod ({ cls := "PickleHouse", name := "warmth", desc := "(III)Z" } : Jvm.MethodName)) ∈ lw_all := lw_g (lw_at lw_m2 146 rfl) rfl
theorem q448 : (Jvm.Cond.selects "PickleHouse" ({ cls := "PickleHouse", name := "warmth", desc := "(III)Z" } : Jvm.MethodName) ({ cls := "PickleHouse", name := "warmth", desc := "(III)Z" } : Jvm.MethodName)) ∈ lw_all := lw_g (lw_at lw_m2 147 rfl) rfl
theorem q449 : (Jvm.Cond.code ({ cls := "PickleHouse", name := "warmth", desc := "(III)Z" } : Jvm.MethodName) prog_1_method_9_code (5 : Nat) (Option.some Jvm.ClassFile.FieldType.boolean)) ∈ lw_all := lw_g (lw_at lw_m2 148 rfl) rfl
theorem q451 : (Jvm.Cond.instanceMethod ({ cls := "PickleHouse", name := "hours", desc := "(I)I" } : Jvm.MethodName)) ∈ lw_all := lw_g (lw_at lw_m2 150 rfl) rfl
theorem q452 : (Jvm.Cond.selects "PickleHouse" ({ cls := "PickleHouse", name := "hours", desc := "(I)I" } : Jvm.MethodName) ({ cls := "PickleHouse", name := "hours", desc := "(I)I" } : Jvm.MethodName)) ∈ lw_all := lw_g (lw_at lw_m2 151 rfl) rfl
theorem q453 : (Jvm.Cond.code ({ cls := "PickleHouse", name := "hours", desc := "(I)I" } : Jvm.MethodName) prog_1_method_14_code (3 : Nat) (Option.some Jvm.ClassFile.FieldType.int)) ∈ lw_all := lw_g (lw_at lw_m2 152 rfl) rfl
theorem q454 : (Jvm.Cond.methodLink "PickleHouse" (156 : Nat) ({ cls := "PickleHouse", name := "hour", desc := "()V" } : Jvm.MethodName)) ∈ lw_all := lw_g (lw_at lw_m2 153 rfl) rfl
theorem q455 : (Jvm.Cond.privateMethod ({ cls := "PickleHouse", name := "hour", desc := "()V" } : Jvm.MethodName)) ∈ lw_tbl := lw_at lw_m2 154 rfl
theorem q456 : (Jvm.Cond.instanceMethod ({ cls := "PickleHouse", name := "hour", desc := "()V" } : Jvm.MethodName)) ∈ lw_all := lw_g (lw_at lw_m2 155 rfl) rfl
theorem q457 : (Jvm.Cond.code ({ cls := "PickleHouse", name := "hour", desc := "()V" } : Jvm.MethodName) prog_1_method_15_code (5 : Nat) (Option.none : Option Jvm.ClassFile.FieldType)) ∈ lw_all := lw_g (lw_at lw_m2 156 rfl) rfl
theorem q458 : (Jvm.Cond.methodLink "PickleHouse" (159 : Nat) ({ cls := "PickleHouse", name := "inForce", desc := "()LPickleHouse$Recipe;" } : Jvm.MethodName)) ∈ lw_all := lw_g (lw_at lw_m2 157 rfl) rfl
theorem q459 : (Jvm.Cond.privateMethod ({ cls := "PickleHouse", name := "inForce", desc := "()LPickleHouse$Recipe;" } : Jvm.MethodName)) ∈ lw_tbl := lw_at lw_m2 158 rfl
theorem q460 : (Jvm.Cond.instanceMethod ({ cls := "PickleHouse", name := "inForce", desc := "()LPickleHouse$Recipe;" } : Jvm.MethodName)) ∈ lw_all := lw_g (lw_at lw_m2 159 rfl) rfl
theorem q461 : (Jvm.Cond.code ({ cls := "PickleHouse", name := "inForce", desc := "()LPickleHouse$Recipe;" } : Jvm.MethodName) prog_1_method_13_code (4 : Nat) (Option.some (Jvm.ClassFile.FieldType.object "PickleHouse$Recipe"))) ∈ lw_all := lw_g (lw_at lw_m2 160 rfl) rfl
theorem q462 : (Jvm.Cond.classLink "PickleHouse" (151 : Nat) "PickleHouse$Recipe") ∈ lw_all := lw_g (lw_at lw_m2 161 rfl) rfl
theorem q463 : (Jvm.Cond.classLink "PickleHouse" (166 : Nat) "PickleHouse$Act") ∈ lw_all := lw_g (lw_at lw_m2 162 rfl) rfl
theorem q464 : (Jvm.Cond.methodLink "PickleHouse" (168 : Nat) ({ cls := "PickleHouse$Act", name := "goes", desc := "(LPickleHouse;LPickleHouse$Crock;)V" } : Jvm.MethodName)) ∈ lw_all := lw_g (lw_at lw_m2 163 rfl) rfl
theorem q488 : (Jvm.Cond.privateMethod ({ cls := "PickleHouse", name := "field", desc := "(LPickleHouse$Crock;I)I" } : Jvm.MethodName)) ∈ lw_tbl := lw_at lw_m2 187 rfl
theorem q489 : (Jvm.Cond.instanceMethod ({ cls := "PickleHouse", name := "field", desc := "(LPickleHouse$Crock;I)I" } : Jvm.MethodName)) ∈ lw_all := lw_g (lw_at lw_m2 188 rfl) rfl
theorem q490 : (Jvm.Cond.code ({ cls := "PickleHouse", name := "field", desc := "(LPickleHouse$Crock;I)I" } : Jvm.MethodName) prog_1_method_19_code (3 : Nat) (Option.some Jvm.ClassFile.FieldType.int)) ∈ lw_all := lw_g (lw_at lw_m2 189 rfl) rfl
theorem q491 : (Jvm.Cond.methodLink "PickleHouse" (216 : Nat) ({ cls := "PickleHouse", name := "sour", desc := "(LPickleHouse$Crock;IIZ)I" } : Jvm.MethodName)) ∈ lw_all := lw_g (lw_at lw_m2 190 rfl) rfl
theorem q492 : (Jvm.Cond.privateMethod ({ cls := "PickleHouse", name := "sour", desc := "(LPickleHouse$Crock;IIZ)I" } : Jvm.MethodName)) ∈ lw_tbl := lw_at lw_m2 191 rfl
theorem q493 : (Jvm.Cond.instanceMethod ({ cls := "PickleHouse", name := "sour", desc := "(LPickleHouse$Crock;IIZ)I" } : Jvm.MethodName)) ∈ lw_all := lw_g (lw_at lw_m2 192 rfl) rfl
theorem q494 : (Jvm.Cond.code ({ cls := "PickleHouse", name := "sour", desc := "(LPickleHouse$Crock;IIZ)I" } : Jvm.MethodName) prog_1_method_17_code (8 : Nat) (Option.some Jvm.ClassFile.FieldType.int)) ∈ lw_all := lw_g (lw_at lw_m2 193 rfl) rfl
theorem q495 : (Jvm.Cond.methodLink "PickleHouse" (204 : Nat) ({ cls := "PickleHouse", name := "latest", desc := "(LPickleHouse$Crock;II)LPickleHouse$Test;" } : Jvm.MethodName)) ∈ lw_all := lw_g (lw_at lw_m2 194 rfl) rfl
theorem q496 : (Jvm.Cond.privateMethod ({ cls := "PickleHouse", name := "latest", desc := "(LPickleHouse$Crock;II)LPickleHouse$Test;" } : Jvm.MethodName)) ∈ lw_tbl := lw_at lw_m2 195 rfl
theorem q497 : (Jvm.Cond.instanceMethod ({ cls := "PickleHouse", name := "latest", desc := "(LPickleHouse$Crock;II)LPickleHouse$Test;" } : Jvm.MethodName)) ∈ lw_all := lw_g (lw_at lw_m2 196 rfl) rfl
theorem q498 : (Jvm.Cond.code ({ cls := "PickleHouse", name := "latest", desc := "(LPickleHouse$Crock;II)LPickleHouse$Test;" } : Jvm.MethodName) prog_1_method_16_code (7 : Nat) (Option.some (Jvm.ClassFile.FieldType.object "PickleHouse$Test"))) ∈ lw_all := lw_g (lw_at lw_m2 197 rfl) rfl
theorem q499 : (Jvm.Cond.classLink "PickleHouse" (193 : Nat) "PickleHouse$Test") ∈ lw_all := lw_g (lw_at lw_m2 198 rfl) rfl
theorem q500 : (Jvm.Cond.methodLink "PickleHouse" (184 : Nat) ({ cls := "java/lang/Math", name := "min", desc := "(II)I" } : Jvm.MethodName)) ∈ lw_all := lw_g (lw_at lw_m2 199 rfl) rfl
theorem q501 : (Jvm.Cond.methodLink "PickleHouse" (220 : Nat) ({ cls := "PickleHouse", name := "testsOf", desc := "(LPickleHouse$Crock;)I" } : Jvm.MethodName)) ∈ lw_all := lw_g (lw_at lw_m2 200 rfl) rfl
theorem q502 : (Jvm.Cond.privateMethod ({ cls := "PickleHouse", name := "testsOf", desc := "(LPickleHouse$Crock;)I" } : Jvm.MethodName)) ∈ lw_tbl := lw_at lw_m2 201 rfl
theorem q503 : (Jvm.Cond.instanceMethod ({ cls := "PickleHouse", name := "testsOf", desc := "(LPickleHouse$Crock;)I" } : Jvm.MethodName)) ∈ lw_all := lw_g (lw_at lw_m2 202 rfl) rfl
theorem q504 : (Jvm.Cond.code ({ cls := "PickleHouse", name := "testsOf", desc := "(LPickleHouse$Crock;)I" } : Jvm.MethodName) prog_1_method_18_code (4 : Nat) (Option.some Jvm.ClassFile.FieldType.int)) ∈ lw_all := lw_g (lw_at lw_m2 203 rfl) rfl
theorem q505 : (Jvm.Cond.methodLink "PickleHouse" (223 : Nat) ({ cls := "PickleHouse$Crock", name := "isCold", desc := "()Z" } : Jvm.MethodName)) ∈ lw_all := lw_g (lw_at lw_m2 204 rfl) rfl
theorem q531 : (Jvm.Cond.privateMethod ({ cls := "PickleHouse", name := "free", desc := "(II)I" } : Jvm.MethodName)) ∈ lw_tbl := lw_at lw_m2 230 rfl
theorem q532 : (Jvm.Cond.instanceMethod ({ cls := "PickleHouse", name := "free", desc := "(II)I" } : Jvm.MethodName)) ∈ lw_all := lw_g (lw_at lw_m2 231 rfl) rfl
theorem q533 : (Jvm.Cond.code ({ cls := "PickleHouse", name := "free", desc := "(II)I" } : Jvm.MethodName) prog_1_method_6_code (4 : Nat) (Option.some Jvm.ClassFile.FieldType.int)) ∈ lw_all := lw_g (lw_at lw_m2 232 rfl) rfl
theorem q548 : (Jvm.Cond.privateMethod ({ cls := "PickleHouse", name := "wastes", desc := "(LPickleHouse$Crock;I)V" } : Jvm.MethodName)) ∈ lw_tbl := lw_at lw_m3 7 rfl
theorem q549 : (Jvm.Cond.instanceMethod ({ cls := "PickleHouse", name := "wastes", desc := "(LPickleHouse$Crock;I)V" } : Jvm.MethodName)) ∈ lw_all := lw_g (lw_at lw_m3 8 rfl) rfl
theorem q550 : (Jvm.Cond.code ({ cls := "PickleHouse", name := "wastes", desc := "(LPickleHouse$Crock;I)V" } : Jvm.MethodName) prog_1_method_12_code (4 : Nat) (Option.none : Option Jvm.ClassFile.FieldType)) ∈ lw_all := lw_g (lw_at lw_m3 9 rfl) rfl
theorem q551 : (Jvm.Cond.methodLink "PickleHouse" (147 : Nat) ({ cls := "PickleHouse$Crock", name := "goes", desc := "(I)V" } : Jvm.MethodName)) ∈ lw_all := lw_g (lw_at lw_m3 10 rfl) rfl
theorem q556 : (Jvm.Cond.methodLink "PickleHouse" (171 : Nat) ({ cls := "PickleHouse", name := "rate", desc := "(LPickleHouse$Crock;)I" } : Jvm.MethodName)) ∈ lw_all := lw_g (lw_at lw_m3 15 rfl) rfl
theorem q557 : (Jvm.Cond.privateMethod ({ cls := "PickleHouse", name := "rate", desc := "(LPickleHouse$Crock;)I" } : Jvm.MethodName)) ∈ lw_tbl := lw_at lw_m3 16 rfl
theorem q558 : (Jvm.Cond.instanceMethod ({ cls := "PickleHouse", name := "rate", desc := "(LPickleHouse$Crock;)I" } : Jvm.MethodName)) ∈ lw_all := lw_g (lw_at lw_m3 17 rfl) rfl
theorem q559 : (Jvm.Cond.code ({ cls := "PickleHouse", name := "rate", desc := "(LPickleHouse$Crock;)I" } : Jvm.MethodName) prog_1_method_11_code (2 : Nat) (Option.some Jvm.ClassFile.FieldType.int)) ∈ lw_all := lw_g (lw_at lw_m3 18 rfl) rfl
theorem q560 : (Jvm.Cond.methodLink "PickleHouse" (137 : Nat) ({ cls := "PickleHouse", name := "warmthAt", desc := "(II)I" } : Jvm.MethodName)) ∈ lw_all := lw_g (lw_at lw_m3 19 rfl) rfl
theorem q561 : (Jvm.Cond.privateMethod ({ cls := "PickleHouse", name := "warmthAt", desc := "(II)I" } : Jvm.MethodName)) ∈ lw_tbl := lw_at lw_m3 20 rfl
theorem q562 : (Jvm.Cond.instanceMethod ({ cls := "PickleHouse", name := "warmthAt", desc := "(II)I" } : Jvm.MethodName)) ∈ lw_all := lw_g (lw_at lw_m3 21 rfl) rfl
theorem q563 : (Jvm.Cond.code ({ cls := "PickleHouse", name := "warmthAt", desc := "(II)I" } : Jvm.MethodName) prog_1_method_10_code (5 : Nat) (Option.some Jvm.ClassFile.FieldType.int)) ∈ lw_all := lw_g (lw_at lw_m3 22 rfl) rfl
theorem q564 : (Jvm.Cond.methodLink "PickleHouse" (189 : Nat) ({ cls := "PickleHouse", name := "wastes", desc := "(LPickleHouse$Crock;I)V" } : Jvm.MethodName)) ∈ lw_all := lw_g (lw_at lw_m3 23 rfl) rfl
theorem q566 : (Jvm.Cond.instanceMethod ({ cls := "PickleHouse", name := "test", desc := "(III)I" } : Jvm.MethodName)) ∈ lw_all := lw_g (lw_at lw_m3 25 rfl) rfl
theorem q567 : (Jvm.Cond.selects "PickleHouse" ({ cls := "PickleHouse", name := "test", desc := "(III)I" } : Jvm.MethodName) ({ cls := "PickleHouse", name := "test", desc := "(III)I" } : Jvm.MethodName)) ∈ lw_all := lw_g (lw_at lw_m3 26 rfl) rfl
theorem q568 : (Jvm.Cond.code ({ cls := "PickleHouse", name := "test", desc := "(III)I" } : Jvm.MethodName) prog_1_method_20_code (5 : Nat) (Option.some Jvm.ClassFile.FieldType.int)) ∈ lw_all := lw_g (lw_at lw_m3 27 rfl) rfl
theorem q570 : (Jvm.Cond.methodLink "PickleHouse" (226 : Nat) ({ cls := "PickleHouse$Test", name := "<init>", desc := "(LPickleHouse$Crock;II)V" } : Jvm.MethodName)) ∈ lw_all := lw_g (lw_at lw_m3 29 rfl) rfl
theorem q575 : (Jvm.Cond.fieldLinkNest "PickleHouse" (195 : Nat) "PickleHouse$Test" "of" "LPickleHouse$Crock;" "PickleHouse") ∈ lw_tbl := lw_at lw_m3 34 rfl
theorem q577 : (Jvm.Cond.fieldLinkNest "PickleHouse" (199 : Nat) "PickleHouse$Test" "hour" "I" "PickleHouse") ∈ lw_tbl := lw_at lw_m3 36 rfl
theorem q579 : (Jvm.Cond.fieldLinkNest "PickleHouse" (207 : Nat) "PickleHouse$Test" "v" "I" "PickleHouse") ∈ lw_tbl := lw_at lw_m3 38 rfl
theorem q588 : (Jvm.Cond.instanceMethod ({ cls := "PickleHouse", name := "span", desc := "(IIII)I" } : Jvm.MethodName)) ∈ lw_all := lw_g (lw_at lw_m3 47 rfl) rfl
theorem q589 : (Jvm.Cond.selects "PickleHouse" ({ cls := "PickleHouse", name := "span", desc := "(IIII)I" } : Jvm.MethodName) ({ cls := "PickleHouse", name := "span", desc := "(IIII)I" } : Jvm.MethodName)) ∈ lw_all := lw_g (lw_at lw_m3 48 rfl) rfl
theorem q590 : (Jvm.Cond.code ({ cls := "PickleHouse", name := "span", desc := "(IIII)I" } : Jvm.MethodName) prog_1_method_21_code (6 : Nat) (Option.some Jvm.ClassFile.FieldType.int)) ∈ lw_all := lw_g (lw_at lw_m3 49 rfl) rfl
theorem q592 : (Jvm.Cond.instanceMethod ({ cls := "PickleHouse", name := "crockOf", desc := "(II)I" } : Jvm.MethodName)) ∈ lw_all := lw_g (lw_at lw_m3 51 rfl) rfl
theorem q593 : (Jvm.Cond.selects "PickleHouse" ({ cls := "PickleHouse", name := "crockOf", desc := "(II)I" } : Jvm.MethodName) ({ cls := "PickleHouse", name := "crockOf", desc := "(II)I" } : Jvm.MethodName)) ∈ lw_all := lw_g (lw_at lw_m3 52 rfl) rfl
theorem q594 : (Jvm.Cond.code ({ cls := "PickleHouse", name := "crockOf", desc := "(II)I" } : Jvm.MethodName) prog_1_method_23_code (4 : Nat) (Option.some Jvm.ClassFile.FieldType.int)) ∈ lw_all := lw_g (lw_at lw_m3 53 rfl) rfl
theorem q595 : (Jvm.Cond.methodLink "PickleHouse" (235 : Nat) ({ cls := "PickleHouse", name := "isFit", desc := "(LPickleHouse$Crock;)Z" } : Jvm.MethodName)) ∈ lw_all := lw_g (lw_at lw_m3 54 rfl) rfl
theorem q596 : (Jvm.Cond.privateMethod ({ cls := "PickleHouse", name := "isFit", desc := "(LPickleHouse$Crock;)Z" } : Jvm.MethodName)) ∈ lw_tbl := lw_at lw_m3 55 rfl
theorem q597 : (Jvm.Cond.instanceMethod ({ cls := "PickleHouse", name := "isFit", desc := "(LPickleHouse$Crock;)Z" } : Jvm.MethodName)) ∈ lw_all := lw_g (lw_at lw_m3 56 rfl) rfl
theorem q598 : (Jvm.Cond.code ({ cls := "PickleHouse", name := "isFit", desc := "(LPickleHouse$Crock;)Z" } : Jvm.MethodName) prog_1_method_22_code (3 : Nat) (Option.some Jvm.ClassFile.FieldType.boolean)) ∈ lw_all := lw_g (lw_at lw_m3 57 rfl) rfl
theorem q600 : (Jvm.Cond.instanceMethod ({ cls := "PickleHouse", name := "feed", desc := "(IIIII)I" } : Jvm.MethodName)) ∈ lw_all := lw_g (lw_at lw_m3 59 rfl) rfl
theorem q601 : (Jvm.Cond.selects "PickleHouse" ({ cls := "PickleHouse", name := "feed", desc := "(IIIII)I" } : Jvm.MethodName) ({ cls := "PickleHouse", name := "feed", desc := "(IIIII)I" } : Jvm.MethodName)) ∈ lw_all := lw_g (lw_at lw_m3 60 rfl) rfl
theorem q602 : (Jvm.Cond.code ({ cls := "PickleHouse", name := "feed", desc := "(IIIII)I" } : Jvm.MethodName) prog_1_method_25_code (12 : Nat) (Option.some Jvm.ClassFile.FieldType.int)) ∈ lw_all := lw_g (lw_at lw_m3 61 rfl) rfl
theorem q604 : (Jvm.Cond.instanceMethod ({ cls := "PickleHouse", name := "end", desc := "(I)I" } : Jvm.MethodName)) ∈ lw_all := lw_g (lw_at lw_m3 63 rfl) rfl
theorem q605 : (Jvm.Cond.selects "PickleHouse" ({ cls := "PickleHouse", name := "end", desc := "(I)I" } : Jvm.MethodName) ({ cls := "PickleHouse", name := "end", desc := "(I)I" } : Jvm.MethodName)) ∈ lw_all := lw_g (lw_at lw_m3 64 rfl) rfl
theorem q606 : (Jvm.Cond.code ({ cls := "PickleHouse", name := "end", desc := "(I)I" } : Jvm.MethodName) prog_1_method_26_code (2 : Nat) (Option.some Jvm.ClassFile.FieldType.int)) ∈ lw_all := lw_g (lw_at lw_m3 65 rfl) rfl
theorem q608 : (Jvm.Cond.instanceMethod ({ cls := "PickleHouse", name := "recipe", desc := "(I)I" } : Jvm.MethodName)) ∈ lw_all := lw_g (lw_at lw_m3 67 rfl) rfl
theorem q609 : (Jvm.Cond.selects "PickleHouse" ({ cls := "PickleHouse", name := "recipe", desc := "(I)I" } : Jvm.MethodName) ({ cls := "PickleHouse", name := "recipe", desc := "(I)I" } : Jvm.MethodName)) ∈ lw_all := lw_g (lw_at lw_m3 68 rfl) rfl
theorem q610 : (Jvm.Cond.codeWith ({ cls := "PickleHouse", name := "recipe", desc := "(I)I" } : Jvm.MethodName) prog_1_method_27_code (5 : Nat) (Option.some Jvm.ClassFile.FieldType.int) [((35 : Nat), (79 : Nat), (86 : Nat), (256 : Nat)), ((35 : Nat), (79 : Nat), (110 : Nat), (0 : Nat)), ((86 : Nat), (103 : Nat), (110 : Nat), (0 : Nat)), ((110 : Nat), (112 : Nat), (110 : Nat), (0 : Nat))]) ∈ lw_all := lw_g (lw_at lw_m3 69 rfl) rfl
theorem q611 : (Jvm.Cond.classLink "PickleHouse" (256 : Nat) "PickleHouse$Wrong") ∈ lw_all := lw_g (lw_at lw_m3 70 rfl) rfl
theorem q613 : (Jvm.Cond.classLink "PickleHouse" (245 : Nat) "PickleHouse$Reader") ∈ lw_all := lw_g (lw_at lw_m3 72 rfl) rfl
theorem q615 : (Jvm.Cond.methodLink "PickleHouse" (247 : Nat) ({ cls := "PickleHouse$Reader", name := "<init>", desc := "([BI)V" } : Jvm.MethodName)) ∈ lw_all := lw_g (lw_at lw_m3 74 rfl) rfl
theorem q800 : (Jvm.Cond.methodLink "PickleHouse" (250 : Nat) ({ cls := "PickleHouse$Reader", name := "rules", desc := "()Ljava/util/ArrayList;" } : Jvm.MethodName)) ∈ lw_all := lw_g (lw_at lw_m4 19 rfl) rfl
theorem q942 : (Jvm.Cond.fieldLinkNest "PickleHouse" (259 : Nat) "PickleHouse$Wrong" "kind" "I" "PickleHouse") ∈ lw_tbl := lw_at lw_m4 161 rfl
theorem q944 : (Jvm.Cond.fieldLinkNest "PickleHouse" (258 : Nat) "PickleHouse$Wrong" "place" "I" "PickleHouse") ∈ lw_tbl := lw_at lw_m4 163 rfl
theorem q1123 : (Jvm.Cond.methodLink "PickleHouse" (253 : Nat) ({ cls := "PickleHouse$Recipe", name := "<init>", desc := "(ILjava/util/ArrayList;)V" } : Jvm.MethodName)) ∈ lw_all := lw_g (lw_at lw_m5 102 rfl) rfl
theorem q1128 : (Jvm.Cond.fieldLinkNest "PickleHouse" (153 : Nat) "PickleHouse$Recipe" "day" "I" "PickleHouse") ∈ lw_tbl := lw_at lw_m5 107 rfl
theorem q1130 : (Jvm.Cond.fieldLinkNest "PickleHouse" (163 : Nat) "PickleHouse$Recipe" "rules" "Ljava/util/ArrayList;" "PickleHouse") ∈ lw_tbl := lw_at lw_m5 109 rfl
theorem q1137 : (Jvm.Cond.instanceMethod ({ cls := "PickleHouse", name := "place", desc := "()I" } : Jvm.MethodName)) ∈ lw_all := lw_g (lw_at lw_m5 116 rfl) rfl
theorem q1138 : (Jvm.Cond.selects "PickleHouse" ({ cls := "PickleHouse", name := "place", desc := "()I" } : Jvm.MethodName) ({ cls := "PickleHouse", name := "place", desc := "()I" } : Jvm.MethodName)) ∈ lw_all := lw_g (lw_at lw_m5 117 rfl) rfl
theorem q1139 : (Jvm.Cond.code ({ cls := "PickleHouse", name := "place", desc := "()I" } : Jvm.MethodName) prog_1_method_28_code (1 : Nat) (Option.some Jvm.ClassFile.FieldType.int)) ∈ lw_all := lw_g (lw_at lw_m5 118 rfl) rfl
theorem q1141 : (Jvm.Cond.instanceMethod ({ cls := "PickleHouse", name := "pour", desc := "(II)I" } : Jvm.MethodName)) ∈ lw_all := lw_g (lw_at lw_m5 120 rfl) rfl
theorem q1142 : (Jvm.Cond.selects "PickleHouse" ({ cls := "PickleHouse", name := "pour", desc := "(II)I" } : Jvm.MethodName) ({ cls := "PickleHouse", name := "pour", desc := "(II)I" } : Jvm.MethodName)) ∈ lw_all := lw_g (lw_at lw_m5 121 rfl) rfl
theorem q1143 : (Jvm.Cond.code ({ cls := "PickleHouse", name := "pour", desc := "(II)I" } : Jvm.MethodName) prog_1_method_30_code (10 : Nat) (Option.some Jvm.ClassFile.FieldType.int)) ∈ lw_all := lw_g (lw_at lw_m5 122 rfl) rfl
theorem q1144 : (Jvm.Cond.methodLink "PickleHouse" (262 : Nat) ({ cls := "PickleHouse", name := "mixed", desc := "(JIJIZ)I" } : Jvm.MethodName)) ∈ lw_all := lw_g (lw_at lw_m5 123 rfl) rfl
theorem q1145 : (Jvm.Cond.static ({ cls := "PickleHouse", name := "mixed", desc := "(JIJIZ)I" } : Jvm.MethodName)) ∈ lw_all := lw_g (lw_at lw_m5 124 rfl) rfl
theorem q1146 : (Jvm.Cond.code ({ cls := "PickleHouse", name := "mixed", desc := "(JIJIZ)I" } : Jvm.MethodName) prog_1_method_29_code (11 : Nat) (Option.some Jvm.ClassFile.FieldType.int)) ∈ lw_all := lw_g (lw_at lw_m5 125 rfl) rfl
theorem q1147 : (Jvm.Cond.methodLink "PickleHouse" (266 : Nat) ({ cls := "java/lang/Math", name := "max", desc := "(II)I" } : Jvm.MethodName)) ∈ lw_all := lw_g (lw_at lw_m5 126 rfl) rfl
theorem q1148 : (Jvm.Cond.methodLink "PickleHouse" (269 : Nat) ({ cls := "PickleHouse$Crock", name := "takesAll", desc := "(LPickleHouse$Holder;)V" } : Jvm.MethodName)) ∈ lw_all := lw_g (lw_at lw_m5 127 rfl) rfl
theorem q1156 : (Jvm.Cond.instanceMethod ({ cls := "PickleHouse", name := "limits", desc := "(II)Z" } : Jvm.MethodName)) ∈ lw_all := lw_g (lw_at lw_m5 135 rfl) rfl
theorem q1157 : (Jvm.Cond.selects "PickleHouse" ({ cls := "PickleHouse", name := "limits", desc := "(II)Z" } : Jvm.MethodName) ({ cls := "PickleHouse", name := "limits", desc := "(II)Z" } : Jvm.MethodName)) ∈ lw_all := lw_g (lw_at lw_m5 136 rfl) rfl
theorem q1158 : (Jvm.Cond.code ({ cls := "PickleHouse", name := "limits", desc := "(II)Z" } : Jvm.MethodName) prog_1_method_31_code (3 : Nat) (Option.some Jvm.ClassFile.FieldType.boolean)) ∈ lw_all := lw_g (lw_at lw_m5 137 rfl) rfl
theorem q1160 : (Jvm.Cond.instanceMethod ({ cls := "PickleHouse", name := "jar", desc := "(II)I" } : Jvm.MethodName)) ∈ lw_all := lw_g (lw_at lw_m5 139 rfl) rfl
theorem q1161 : (Jvm.Cond.selects "PickleHouse" ({ cls := "PickleHouse", name := "jar", desc := "(II)I" } : Jvm.MethodName) ({ cls := "PickleHouse", name := "jar", desc := "(II)I" } : Jvm.MethodName)) ∈ lw_all := lw_g (lw_at lw_m5 140 rfl) rfl
theorem q1162 : (Jvm.Cond.code ({ cls := "PickleHouse", name := "jar", desc := "(II)I" } : Jvm.MethodName) prog_1_method_32_code (5 : Nat) (Option.some Jvm.ClassFile.FieldType.int)) ∈ lw_all := lw_g (lw_at lw_m5 141 rfl) rfl
theorem q1163 : (Jvm.Cond.classLink "PickleHouse" (273 : Nat) "PickleHouse$Jar") ∈ lw_all := lw_g (lw_at lw_m5 142 rfl) rfl
theorem q1165 : (Jvm.Cond.methodLinkNest "PickleHouse" (275 : Nat) ({ cls := "PickleHouse$Jar", name := "<init>", desc := "()V" } : Jvm.MethodName) "PickleHouse") ∈ lw_tbl := lw_at lw_m5 144 rfl
theorem q1171 : (Jvm.Cond.methodLink "PickleHouse" (276 : Nat) ({ cls := "PickleHouse$Crock", name := "gives", desc := "(ILPickleHouse$Holder;)V" } : Jvm.MethodName)) ∈ lw_all := lw_g (lw_at lw_m5 150 rfl) rfl
theorem q1179 : (Jvm.Cond.instanceMethod ({ cls := "PickleHouse", name := "inJar", desc := "(II)I" } : Jvm.MethodName)) ∈ lw_all := lw_g (lw_at lw_m5 158 rfl) rfl
theorem q1180 : (Jvm.Cond.selects "PickleHouse" ({ cls := "PickleHouse", name := "inJar", desc := "(II)I" } : Jvm.MethodName) ({ cls := "PickleHouse", name := "inJar", desc := "(II)I" } : Jvm.MethodName)) ∈ lw_all := lw_g (lw_at lw_m5 159 rfl) rfl
theorem q1181 : (Jvm.Cond.code ({ cls := "PickleHouse", name := "inJar", desc := "(II)I" } : Jvm.MethodName) prog_1_method_33_code (3 : Nat) (Option.some Jvm.ClassFile.FieldType.int)) ∈ lw_all := lw_g (lw_at lw_m5 160 rfl) rfl
theorem q1183 : (Jvm.Cond.instanceMethod ({ cls := "PickleHouse", name := "called", desc := "(I)I" } : Jvm.MethodName)) ∈ lw_all := lw_g (lw_at lw_m5 162 rfl) rfl
theorem q1184 : (Jvm.Cond.selects "PickleHouse" ({ cls := "PickleHouse", name := "called", desc := "(I)I" } : Jvm.MethodName) ({ cls := "PickleHouse", name := "called", desc := "(I)I" } : Jvm.MethodName)) ∈ lw_all := lw_g (lw_at lw_m5 163 rfl) rfl
theorem q1185 : (Jvm.Cond.code ({ cls := "PickleHouse", name := "called", desc := "(I)I" } : Jvm.MethodName) prog_1_method_34_code (4 : Nat) (Option.some Jvm.ClassFile.FieldType.int)) ∈ lw_all := lw_g (lw_at lw_m5 164 rfl) rfl
theorem q1187 : (Jvm.Cond.instanceMethod ({ cls := "PickleHouse", name := "order", desc := "(IIII)I" } : Jvm.MethodName)) ∈ lw_all := lw_g (lw_at lw_m5 166 rfl) rfl
theorem q1188 : (Jvm.Cond.selects "PickleHouse" ({ cls := "PickleHouse", name := "order", desc := "(IIII)I" } : Jvm.MethodName) ({ cls := "PickleHouse", name := "order", desc := "(IIII)I" } : Jvm.MethodName)) ∈ lw_all := lw_g (lw_at lw_m5 167 rfl) rfl
theorem q1189 : (Jvm.Cond.code ({ cls := "PickleHouse", name := "order", desc := "(IIII)I" } : Jvm.MethodName) prog_1_method_35_code (5 : Nat) (Option.some Jvm.ClassFile.FieldType.int)) ∈ lw_all := lw_g (lw_at lw_m5 168 rfl) rfl
theorem q1191 : (Jvm.Cond.instanceMethod ({ cls := "PickleHouse", name := "clear", desc := "()I" } : Jvm.MethodName)) ∈ lw_all := lw_g (lw_at lw_m5 170 rfl) rfl
theorem q1192 : (Jvm.Cond.selects "PickleHouse" ({ cls := "PickleHouse", name := "clear", desc := "()I" } : Jvm.MethodName) ({ cls := "PickleHouse", name := "clear", desc := "()I" } : Jvm.MethodName)) ∈ lw_all := lw_g (lw_at lw_m5 171 rfl) rfl
theorem q1193 : (Jvm.Cond.code ({ cls := "PickleHouse", name := "clear", desc := "()I" } : Jvm.MethodName) prog_1_method_36_code (2 : Nat) (Option.some Jvm.ClassFile.FieldType.int)) ∈ lw_all := lw_g (lw_at lw_m5 172 rfl) rfl
theorem q1195 : (Jvm.Cond.instanceMethod ({ cls := "PickleHouse", name := "meets", desc := "(II)I" } : Jvm.MethodName)) ∈ lw_all := lw_g (lw_at lw_m5 174 rfl) rfl
theorem q1196 : (Jvm.Cond.selects "PickleHouse" ({ cls := "PickleHouse", name := "meets", desc := "(II)I" } : Jvm.MethodName) ({ cls := "PickleHouse", name := "meets", desc := "(II)I" } : Jvm.MethodName)) ∈ lw_all := lw_g (lw_at lw_m5 175 rfl) rfl
theorem q1197 : (Jvm.Cond.code ({ cls := "PickleHouse", name := "meets", desc := "(II)I" } : Jvm.MethodName) prog_1_method_38_code (3 : Nat) (Option.some Jvm.ClassFile.FieldType.int)) ∈ lw_all := lw_g (lw_at lw_m5 176 rfl) rfl
theorem q1198 : (Jvm.Cond.methodLink "PickleHouse" (284 : Nat) ({ cls := "PickleHouse", name := "doesMeet", desc := "(LPickleHouse$Crock;I)Z" } : Jvm.MethodName)) ∈ lw_all := lw_g (lw_at lw_m5 177 rfl) rfl
theorem q1199 : (Jvm.Cond.privateMethod ({ cls := "PickleHouse", name := "doesMeet", desc := "(LPickleHouse$Crock;I)Z" } : Jvm.MethodName)) ∈ lw_tbl := lw_at lw_m5 178 rfl
theorem q1200 : (Jvm.Cond.instanceMethod ({ cls := "PickleHouse", name := "doesMeet", desc := "(LPickleHouse$Crock;I)Z" } : Jvm.MethodName)) ∈ lw_all := lw_g (lw_at lw_m5 179 rfl) rfl
theorem q1201 : (Jvm.Cond.code ({ cls := "PickleHouse", name := "doesMeet", desc := "(LPickleHouse$Crock;I)Z" } : Jvm.MethodName) prog_1_method_37_code (3 : Nat) (Option.some Jvm.ClassFile.FieldType.boolean)) ∈ lw_all := lw_g (lw_at lw_m5 180 rfl) rfl
theorem q1203 : (Jvm.Cond.instanceMethod ({ cls := "PickleHouse", name := "plan", desc := "()I" } : Jvm.MethodName)) ∈ lw_all := lw_g (lw_at lw_m5 182 rfl) rfl
theorem q1204 : (Jvm.Cond.selects "PickleHouse" ({ cls := "PickleHouse", name := "plan", desc := "()I" } : Jvm.MethodName) ({ cls := "PickleHouse", name := "plan", desc := "()I" } : Jvm.MethodName)) ∈ lw_all := lw_g (lw_at lw_m5 183 rfl) rfl
theorem q1205 : (Jvm.Cond.code ({ cls := "PickleHouse", name := "plan", desc := "()I" } : Jvm.MethodName) prog_1_method_41_code (1 : Nat) (Option.some Jvm.ClassFile.FieldType.int)) ∈ lw_all := lw_g (lw_at lw_m5 184 rfl) rfl
theorem q1206 : (Jvm.Cond.methodLink "PickleHouse" (297 : Nat) ({ cls := "PickleHouse", name := "plans", desc := "()V" } : Jvm.MethodName)) ∈ lw_all := lw_g (lw_at lw_m5 185 rfl) rfl
theorem q1207 : (Jvm.Cond.privateMethod ({ cls := "PickleHouse", name := "plans", desc := "()V" } : Jvm.MethodName)) ∈ lw_tbl := lw_at lw_m5 186 rfl
theorem q1208 : (Jvm.Cond.instanceMethod ({ cls := "PickleHouse", name := "plans", desc := "()V" } : Jvm.MethodName)) ∈ lw_all := lw_g (lw_at lw_m5 187 rfl) rfl
theorem q1209 : (Jvm.Cond.code ({ cls := "PickleHouse", name := "plans", desc := "()V" } : Jvm.MethodName) prog_1_method_40_code (3 : Nat) (Option.none : Option Jvm.ClassFile.FieldType)) ∈ lw_all := lw_g (lw_at lw_m5 188 rfl) rfl
theorem q1210 : (Jvm.Cond.methodLink "PickleHouse" (294 : Nat) ({ cls := "PickleHouse", name := "tries", desc := "(IIII)V" } : Jvm.MethodName)) ∈ lw_all := lw_g (lw_at lw_m5 189 rfl) rfl
theorem q1211 : (Jvm.Cond.privateMethod ({ cls := "PickleHouse", name := "tries", desc := "(IIII)V" } : Jvm.MethodName)) ∈ lw_tbl := lw_at lw_m5 190 rfl
theorem q1212 : (Jvm.Cond.instanceMethod ({ cls := "PickleHouse", name := "tries", desc := "(IIII)V" } : Jvm.MethodName)) ∈ lw_all := lw_g (lw_at lw_m5 191 rfl) rfl
theorem q1213 : (Jvm.Cond.code ({ cls := "PickleHouse", name := "tries", desc := "(IIII)V" } : Jvm.MethodName) prog_1_method_39_code (6 : Nat) (Option.none : Option Jvm.ClassFile.FieldType)) ∈ lw_all := lw_g (lw_at lw_m5 192 rfl) rfl
theorem q1215 : (Jvm.Cond.instanceMethod ({ cls := "PickleHouse", name := "planned", desc := "(I)I" } : Jvm.MethodName)) ∈ lw_all := lw_g (lw_at lw_m5 194 rfl) rfl
theorem q1216 : (Jvm.Cond.selects "PickleHouse" ({ cls := "PickleHouse", name := "planned", desc := "(I)I" } : Jvm.MethodName) ({ cls := "PickleHouse", name := "planned", desc := "(I)I" } : Jvm.MethodName)) ∈ lw_all := lw_g (lw_at lw_m5 195 rfl) rfl
theorem q1217 : (Jvm.Cond.code ({ cls := "PickleHouse", name := "planned", desc := "(I)I" } : Jvm.MethodName) prog_1_method_42_code (2 : Nat) (Option.some Jvm.ClassFile.FieldType.int)) ∈ lw_all := lw_g (lw_at lw_m5 196 rfl) rfl
theorem q1219 : (Jvm.Cond.instanceMethod ({ cls := "PickleHouse", name := "count", desc := "(I)I" } : Jvm.MethodName)) ∈ lw_all := lw_g (lw_at lw_m5 198 rfl) rfl
theorem q1220 : (Jvm.Cond.selects "PickleHouse" ({ cls := "PickleHouse", name := "count", desc := "(I)I" } : Jvm.MethodName) ({ cls := "PickleHouse", name := "count", desc := "(I)I" } : Jvm.MethodName)) ∈ lw_all := lw_g (lw_at lw_m5 199 rfl) rfl
theorem q1221 : (Jvm.Cond.code ({ cls := "PickleHouse", name := "count", desc := "(I)I" } : Jvm.MethodName) prog_1_method_43_code (4 : Nat) (Option.some Jvm.ClassFile.FieldType.int)) ∈ lw_all := lw_g (lw_at lw_m5 200 rfl) rfl
theorem q1222 : (Jvm.Cond.methodLink "PickleHouse" (300 : Nat) ({ cls := "PickleHouse$Jar", name := "all", desc := "()I" } : Jvm.MethodName)) ∈ lw_all := lw_g (lw_at lw_m5 201 rfl) rfl
theorem q1225 : (Jvm.Cond.methodLink "PickleHouse" (301 : Nat) ({ cls := "java/util/ArrayList", name := "indexOf", desc := "(Ljava/lang/Object;)I" } : Jvm.MethodName)) ∈ lw_all := lw_g (lw_at lw_m5 204 rfl) rfl
theorem q1237 : (Jvm.Cond.selects "PickleHouse" ({ cls := "java/lang/Object", name := "equals", desc := "(Ljava/lang/Object;)Z" } : Jvm.MethodName) ({ cls := "java/lang/Object", name := "equals", desc := "(Ljava/lang/Object;)Z" } : Jvm.MethodName)) ∈ lw_all := lw_g (lw_at lw_m5 216 rfl) rfl
theorem q1260 : (Jvm.Cond.instanceMethod ({ cls := "PickleHouse", name := "part", desc := "(II)I" } : Jvm.MethodName)) ∈ lw_all := lw_g (lw_at lw_m5 239 rfl) rfl
theorem q1261 : (Jvm.Cond.selects "PickleHouse" ({ cls := "PickleHouse", name := "part", desc := "(II)I" } : Jvm.MethodName) ({ cls := "PickleHouse", name := "part", desc := "(II)I" } : Jvm.MethodName)) ∈ lw_all := lw_g (lw_at lw_m6 0 rfl) rfl
theorem q1262 : (Jvm.Cond.code ({ cls := "PickleHouse", name := "part", desc := "(II)I" } : Jvm.MethodName) prog_1_method_24_code (3 : Nat) (Option.some Jvm.ClassFile.FieldType.int)) ∈ lw_all := lw_g (lw_at lw_m6 1 rfl) rfl
theorem q1263 : (Jvm.Cond.classLink "PickleHouse" (239 : Nat) "java/util/NoSuchElementException") ∈ lw_all := lw_g (lw_at lw_m6 2 rfl) rfl
theorem q1274 : (Jvm.Cond.methodLink "PickleHouse" (241 : Nat) ({ cls := "java/util/NoSuchElementException", name := "<init>", desc := "()V" } : Jvm.MethodName)) ∈ lw_all := lw_g (lw_at lw_m6 13 rfl) rfl
theorem q1715 : (Jvm.Cond.castable "PickleHouse" "java/lang/Object") ∈ lw_tbl := lw_at lw_m7 214 rfl
theorem in_X1 : ∀ w ∈ wsX10, w ∈ lw_all := lw_in wsX10 [213, 215, 217, 219, 221, 223, 225, 227, 229, 231, 233, 235, 237, 239, 241, 243, 245, 247, 249, 251, 253, 255, 257, 259, 261, 263, 265, 267] (by decide +kernel) (by decide +kernel)
theorem q70 : (Jvm.Cond.initialized "PickleHouseModel") ∈ lw_all := lw_g (lw_at lw_m1 9 rfl) rfl
theorem q411 : (Jvm.Cond.selects "PickleHouseModel" ({ cls := "java/lang/Object", name := "getClass", desc := "()Ljava/lang/Class;" } : Jvm.MethodName) ({ cls := "java/lang/Object", name := "getClass", desc := "()Ljava/lang/Class;" } : Jvm.MethodName)) ∈ lw_all := lw_g (lw_at lw_m2 110 rfl) rfl
theorem q1250 : (Jvm.Cond.selects "PickleHouseModel" ({ cls := "java/lang/Object", name := "equals", desc := "(Ljava/lang/Object;)Z" } : Jvm.MethodName) ({ cls := "java/lang/Object", name := "equals", desc := "(Ljava/lang/Object;)Z" } : Jvm.MethodName)) ∈ lw_all := lw_g (lw_at lw_m5 229 rfl) rfl
theorem q1287 : (Jvm.Cond.instantiable "PickleHouseModel" (54 : Nat)) ∈ lw_all := lw_g (lw_at lw_m6 26 rfl) rfl
theorem q1289 : (Jvm.Cond.instanceMethod ({ cls := "PickleHouseModel", name := "<init>", desc := "()V" } : Jvm.MethodName)) ∈ lw_all := lw_g (lw_at lw_m6 28 rfl) rfl
theorem q1290 : (Jvm.Cond.code ({ cls := "PickleHouseModel", name := "<init>", desc := "()V" } : Jvm.MethodName) prog_20_method_1_code (1 : Nat) (Option.none : Option Jvm.ClassFile.FieldType)) ∈ lw_all := lw_g (lw_at lw_m6 29 rfl) rfl
theorem q1291 : (Jvm.Cond.methodLink "PickleHouseModel" (1 : Nat) ({ cls := "java/lang/Object", name := "<init>", desc := "()V" } : Jvm.MethodName)) ∈ lw_all := lw_g (lw_at lw_m6 30 rfl) rfl
theorem q1292 : (Jvm.Cond.fieldLink "PickleHouseModel" (121 : Nat) "PickleHouseModel" "thrown" "I") ∈ lw_all := lw_g (lw_at lw_m6 31 rfl) rfl
theorem q1293 : (Jvm.Cond.fieldLink "PickleHouseModel" (124 : Nat) "PickleHouseModel" "lots" "I") ∈ lw_all := lw_g (lw_at lw_m6 32 rfl) rfl
theorem q1294 : (Jvm.Cond.fieldLink "PickleHouseModel" (7 : Nat) "PickleHouseModel" "left" "[I") ∈ lw_all := lw_g (lw_at lw_m6 33 rfl) rfl
theorem q1295 : (Jvm.Cond.fieldLink "PickleHouseModel" (132 : Nat) "PickleHouseModel" "crocks" "I") ∈ lw_all := lw_g (lw_at lw_m6 34 rfl) rfl
theorem q1296 : (Jvm.Cond.fieldLink "PickleHouseModel" (13 : Nat) "PickleHouseModel" "contents" "[I") ∈ lw_all := lw_g (lw_at lw_m6 35 rfl) rfl
theorem q1297 : (Jvm.Cond.fieldLink "PickleHouseModel" (16 : Nat) "PickleHouseModel" "place" "[I") ∈ lw_all := lw_g (lw_at lw_m6 36 rfl) rfl
theorem q1298 : (Jvm.Cond.fieldLink "PickleHouseModel" (19 : Nat) "PickleHouseModel" "state" "[I") ∈ lw_all := lw_g (lw_at lw_m6 37 rfl) rfl
theorem q1299 : (Jvm.Cond.fieldLink "PickleHouseModel" (22 : Nat) "PickleHouseModel" "salt" "[I") ∈ lw_all := lw_g (lw_at lw_m6 38 rfl) rfl
theorem q1300 : (Jvm.Cond.fieldLink "PickleHouseModel" (25 : Nat) "PickleHouseModel" "gas" "[I") ∈ lw_all := lw_g (lw_at lw_m6 39 rfl) rfl
theorem q1301 : (Jvm.Cond.fieldLink "PickleHouseModel" (28 : Nat) "PickleHouseModel" "born" "[I") ∈ lw_all := lw_g (lw_at lw_m6 40 rfl) rfl
theorem q1302 : (Jvm.Cond.fieldLink "PickleHouseModel" (31 : Nat) "PickleHouseModel" "baseLow" "[I") ∈ lw_all := lw_g (lw_at lw_m6 41 rfl) rfl
theorem q1303 : (Jvm.Cond.fieldLink "PickleHouseModel" (34 : Nat) "PickleHouseModel" "baseHigh" "[I") ∈ lw_all := lw_g (lw_at lw_m6 42 rfl) rfl
theorem q1304 : (Jvm.Cond.fieldLink "PickleHouseModel" (37 : Nat) "PickleHouseModel" "rates" "[B") ∈ lw_all := lw_g (lw_at lw_m6 43 rfl) rfl
theorem q1305 : (Jvm.Cond.fieldLink "PickleHouseModel" (41 : Nat) "PickleHouseModel" "latestRate" "[I") ∈ lw_all := lw_g (lw_at lw_m6 44 rfl) rfl
theorem q1306 : (Jvm.Cond.fieldLink "PickleHouseModel" (142 : Nat) "PickleHouseModel" "now" "I") ∈ lw_all := lw_g (lw_at lw_m6 45 rfl) rfl
theorem q1307 : (Jvm.Cond.fieldLink "PickleHouseModel" (152 : Nat) "PickleHouseModel" "waste" "I") ∈ lw_all := lw_g (lw_at lw_m6 46 rfl) rfl
theorem q1308 : (Jvm.Cond.fieldLink "PickleHouseModel" (44 : Nat) "PickleHouseModel" "warm" "[B") ∈ lw_all := lw_g (lw_at lw_m6 47 rfl) rfl
theorem q1309 : (Jvm.Cond.fieldLink "PickleHouseModel" (47 : Nat) "PickleHouseModel" "isTold" "[Z") ∈ lw_all := lw_g (lw_at lw_m6 48 rfl) rfl
theorem q1310 : (Jvm.Cond.fieldLink "PickleHouseModel" (51 : Nat) "PickleHouseModel" "steps" "[I") ∈ lw_all := lw_g (lw_at lw_m6 49 rfl) rfl
theorem q1311 : (Jvm.Cond.fieldLink "PickleHouseModel" (159 : Nat) "PickleHouseModel" "tests" "I") ∈ lw_all := lw_g (lw_at lw_m6 50 rfl) rfl
theorem q1312 : (Jvm.Cond.fieldLink "PickleHouseModel" (54 : Nat) "PickleHouseModel" "testCrock" "[I") ∈ lw_all := lw_g (lw_at lw_m6 51 rfl) rfl
theorem q1313 : (Jvm.Cond.fieldLink "PickleHouseModel" (57 : Nat) "PickleHouseModel" "testHour" "[I") ∈ lw_all := lw_g (lw_at lw_m6 52 rfl) rfl
theorem q1314 : (Jvm.Cond.fieldLink "PickleHouseModel" (60 : Nat) "PickleHouseModel" "testValue" "[I") ∈ lw_all := lw_g (lw_at lw_m6 53 rfl) rfl
theorem q1315 : (Jvm.Cond.fieldLink "PickleHouseModel" (245 : Nat) "PickleHouseModel" "recipes" "I") ∈ lw_all := lw_g (lw_at lw_m6 54 rfl) rfl
theorem q1316 : (Jvm.Cond.fieldLink "PickleHouseModel" (63 : Nat) "PickleHouseModel" "recipeDay" "[I") ∈ lw_all := lw_g (lw_at lw_m6 55 rfl) rfl
theorem q1317 : (Jvm.Cond.fieldLink "PickleHouseModel" (66 : Nat) "PickleHouseModel" "rules" "[I") ∈ lw_all := lw_g (lw_at lw_m6 56 rfl) rfl
theorem q1318 : (Jvm.Cond.fieldLink "PickleHouseModel" (69 : Nat) "PickleHouseModel" "act" "[I") ∈ lw_all := lw_g (lw_at lw_m6 57 rfl) rfl
theorem q1319 : (Jvm.Cond.fieldLink "PickleHouseModel" (72 : Nat) "PickleHouseModel" "more" "[I") ∈ lw_all := lw_g (lw_at lw_m6 58 rfl) rfl
theorem q1320 : (Jvm.Cond.fieldLink "PickleHouseModel" (75 : Nat) "PickleHouseModel" "conditions" "[I") ∈ lw_all := lw_g (lw_at lw_m6 59 rfl) rfl
theorem q1321 : (Jvm.Cond.fieldLink "PickleHouseModel" (78 : Nat) "PickleHouseModel" "field" "[I") ∈ lw_all := lw_g (lw_at lw_m6 60 rfl) rfl
theorem q1322 : (Jvm.Cond.fieldLink "PickleHouseModel" (81 : Nat) "PickleHouseModel" "rel" "[I") ∈ lw_all := lw_g (lw_at lw_m6 61 rfl) rfl
theorem q1323 : (Jvm.Cond.fieldLink "PickleHouseModel" (84 : Nat) "PickleHouseModel" "than" "[I") ∈ lw_all := lw_g (lw_at lw_m6 62 rfl) rfl
theorem q1324 : (Jvm.Cond.fieldLink "PickleHouseModel" (87 : Nat) "PickleHouseModel" "tape" "[B") ∈ lw_all := lw_g (lw_at lw_m6 63 rfl) rfl
theorem q1325 : (Jvm.Cond.fieldLink "PickleHouseModel" (170 : Nat) "PickleHouseModel" "taped" "I") ∈ lw_all := lw_g (lw_at lw_m6 64 rfl) rfl
theorem q1326 : (Jvm.Cond.fieldLink "PickleHouseModel" (188 : Nat) "PickleHouseModel" "faultKind" "I") ∈ lw_all := lw_g (lw_at lw_m6 65 rfl) rfl
theorem q1327 : (Jvm.Cond.fieldLink "PickleHouseModel" (90 : Nat) "PickleHouseModel" "faultPlace" "I") ∈ lw_all := lw_g (lw_at lw_m6 66 rfl) rfl
theorem q1328 : (Jvm.Cond.fieldLink "PickleHouseModel" (182 : Nat) "PickleHouseModel" "kind" "I") ∈ lw_all := lw_g (lw_at lw_m6 67 rfl) rfl
theorem q1329 : (Jvm.Cond.fieldLink "PickleHouseModel" (176 : Nat) "PickleHouseModel" "from" "I") ∈ lw_all := lw_g (lw_at lw_m6 68 rfl) rfl
theorem q1330 : (Jvm.Cond.fieldLink "PickleHouseModel" (173 : Nat) "PickleHouseModel" "over" "I") ∈ lw_all := lw_g (lw_at lw_m6 69 rfl) rfl
theorem q1331 : (Jvm.Cond.fieldLink "PickleHouseModel" (185 : Nat) "PickleHouseModel" "value" "I") ∈ lw_all := lw_g (lw_at lw_m6 70 rfl) rfl
theorem q1332 : (Jvm.Cond.fieldLink "PickleHouseModel" (286 : Nat) "PickleHouseModel" "jars" "I") ∈ lw_all := lw_g (lw_at lw_m6 71 rfl) rfl
theorem q1333 : (Jvm.Cond.fieldLink "PickleHouseModel" (94 : Nat) "PickleHouseModel" "inJar" "[I") ∈ lw_all := lw_g (lw_at lw_m6 72 rfl) rfl
theorem q1334 : (Jvm.Cond.fieldLink "PickleHouseModel" (283 : Nat) "PickleHouseModel" "limitLow" "I") ∈ lw_all := lw_g (lw_at lw_m6 73 rfl) rfl
theorem q1335 : (Jvm.Cond.fieldLink "PickleHouseModel" (97 : Nat) "PickleHouseModel" "limitHigh" "I") ∈ lw_all := lw_g (lw_at lw_m6 74 rfl) rfl
theorem q1336 : (Jvm.Cond.fieldLink "PickleHouseModel" (295 : Nat) "PickleHouseModel" "orders" "I") ∈ lw_all := lw_g (lw_at lw_m6 75 rfl) rfl
theorem q1337 : (Jvm.Cond.fieldLink "PickleHouseModel" (100 : Nat) "PickleHouseModel" "orderGrams" "[I") ∈ lw_all := lw_g (lw_at lw_m6 76 rfl) rfl
theorem q1338 : (Jvm.Cond.fieldLink "PickleHouseModel" (103 : Nat) "PickleHouseModel" "orderLow" "[I") ∈ lw_all := lw_g (lw_at lw_m6 77 rfl) rfl
theorem q1339 : (Jvm.Cond.fieldLink "PickleHouseModel" (106 : Nat) "PickleHouseModel" "orderHigh" "[I") ∈ lw_all := lw_g (lw_at lw_m6 78 rfl) rfl
theorem q1340 : (Jvm.Cond.fieldLink "PickleHouseModel" (109 : Nat) "PickleHouseModel" "orderPrice" "[I") ∈ lw_all := lw_g (lw_at lw_m6 79 rfl) rfl
theorem q1341 : (Jvm.Cond.fieldLink "PickleHouseModel" (112 : Nat) "PickleHouseModel" "does" "[Z") ∈ lw_all := lw_g (lw_at lw_m6 80 rfl) rfl
theorem q1342 : (Jvm.Cond.fieldLink "PickleHouseModel" (115 : Nat) "PickleHouseModel" "tried" "[I") ∈ lw_all := lw_g (lw_at lw_m6 81 rfl) rfl
theorem q1343 : (Jvm.Cond.fieldLink "PickleHouseModel" (118 : Nat) "PickleHouseModel" "best" "[I") ∈ lw_all := lw_g (lw_at lw_m6 82 rfl) rfl
theorem q1344 : (Jvm.Cond.fieldLink "PickleHouseModel" (301 : Nat) "PickleHouseModel" "bestPrice" "I") ∈ lw_all := lw_g (lw_at lw_m6 83 rfl) rfl
theorem q1345 : (Jvm.Cond.fieldLink "PickleHouseModel" (304 : Nat) "PickleHouseModel" "bestGrams" "I") ∈ lw_all := lw_g (lw_at lw_m6 84 rfl) rfl
theorem q1346 : (Jvm.Cond.lays "PickleHouseModel" "PickleHouseModel" "thrown" "I") ∈ lw_all := lw_g (lw_at lw_m6 85 rfl) rfl
theorem q1347 : (Jvm.Cond.soleField "PickleHouseModel" "thrown") ∈ lw_all := lw_g (lw_at lw_m6 86 rfl) rfl
theorem q1348 : (Jvm.Cond.lays "PickleHouseModel" "PickleHouseModel" "lots" "I") ∈ lw_all := lw_g (lw_at lw_m6 87 rfl) rfl
theorem q1349 : (Jvm.Cond.soleField "PickleHouseModel" "lots") ∈ lw_all := lw_g (lw_at lw_m6 88 rfl) rfl
theorem q1350 : (Jvm.Cond.laysFinal "PickleHouseModel" "PickleHouseModel" "left" "[I") ∈ lw_all := lw_g (lw_at lw_m6 89 rfl) rfl
theorem q1351 : (Jvm.Cond.soleField "PickleHouseModel" "left") ∈ lw_all := lw_g (lw_at lw_m6 90 rfl) rfl
theorem q1352 : (Jvm.Cond.lays "PickleHouseModel" "PickleHouseModel" "crocks" "I") ∈ lw_all := lw_g (lw_at lw_m6 91 rfl) rfl
theorem q1353 : (Jvm.Cond.soleField "PickleHouseModel" "crocks") ∈ lw_all := lw_g (lw_at lw_m6 92 rfl) rfl
theorem q1354 : (Jvm.Cond.laysFinal "PickleHouseModel" "PickleHouseModel" "contents" "[I") ∈ lw_all := lw_g (lw_at lw_m6 93 rfl) rfl
theorem q1355 : (Jvm.Cond.soleField "PickleHouseModel" "contents") ∈ lw_all := lw_g (lw_at lw_m6 94 rfl) rfl
theorem q1356 : (Jvm.Cond.laysFinal "PickleHouseModel" "PickleHouseModel" "place" "[I") ∈ lw_all := lw_g (lw_at lw_m6 95 rfl) rfl
theorem q1357 : (Jvm.Cond.soleField "PickleHouseModel" "place") ∈ lw_all := lw_g (lw_at lw_m6 96 rfl) rfl
theorem q1358 : (Jvm.Cond.laysFinal "PickleHouseModel" "PickleHouseModel" "state" "[I") ∈ lw_all := lw_g (lw_at lw_m6 97 rfl) rfl
theorem q1359 : (Jvm.Cond.soleField "PickleHouseModel" "state") ∈ lw_all := lw_g (lw_at lw_m6 98 rfl) rfl
theorem q1360 : (Jvm.Cond.laysFinal "PickleHouseModel" "PickleHouseModel" "salt" "[I") ∈ lw_all := lw_g (lw_at lw_m6 99 rfl) rfl
theorem q1361 : (Jvm.Cond.soleField "PickleHouseModel" "salt") ∈ lw_all := lw_g (lw_at lw_m6 100 rfl) rfl
theorem q1362 : (Jvm.Cond.laysFinal "PickleHouseModel" "PickleHouseModel" "gas" "[I") ∈ lw_all := lw_g (lw_at lw_m6 101 rfl) rfl
theorem q1363 : (Jvm.Cond.soleField "PickleHouseModel" "gas") ∈ lw_all := lw_g (lw_at lw_m6 102 rfl) rfl
theorem q1364 : (Jvm.Cond.laysFinal "PickleHouseModel" "PickleHouseModel" "born" "[I") ∈ lw_all := lw_g (lw_at lw_m6 103 rfl) rfl
theorem q1365 : (Jvm.Cond.soleField "PickleHouseModel" "born") ∈ lw_all := lw_g (lw_at lw_m6 104 rfl) rfl
theorem q1366 : (Jvm.Cond.laysFinal "PickleHouseModel" "PickleHouseModel" "baseLow" "[I") ∈ lw_all := lw_g (lw_at lw_m6 105 rfl) rfl
theorem q1367 : (Jvm.Cond.soleField "PickleHouseModel" "baseLow") ∈ lw_all := lw_g (lw_at lw_m6 106 rfl) rfl
theorem q1368 : (Jvm.Cond.laysFinal "PickleHouseModel" "PickleHouseModel" "baseHigh" "[I") ∈ lw_all := lw_g (lw_at lw_m6 107 rfl) rfl
theorem q1369 : (Jvm.Cond.soleField "PickleHouseModel" "baseHigh") ∈ lw_all := lw_g (lw_at lw_m6 108 rfl) rfl
theorem q1370 : (Jvm.Cond.laysFinal "PickleHouseModel" "PickleHouseModel" "rates" "[B") ∈ lw_all := lw_g (lw_at lw_m6 109 rfl) rfl
theorem q1371 : (Jvm.Cond.soleField "PickleHouseModel" "rates") ∈ lw_all := lw_g (lw_at lw_m6 110 rfl) rfl
theorem q1372 : (Jvm.Cond.laysFinal "PickleHouseModel" "PickleHouseModel" "latestRate" "[I") ∈ lw_all := lw_g (lw_at lw_m6 111 rfl) rfl
theorem q1373 : (Jvm.Cond.soleField "PickleHouseModel" "latestRate") ∈ lw_all := lw_g (lw_at lw_m6 112 rfl) rfl
theorem q1374 : (Jvm.Cond.lays "PickleHouseModel" "PickleHouseModel" "now" "I") ∈ lw_all := lw_g (lw_at lw_m6 113 rfl) rfl
theorem q1375 : (Jvm.Cond.soleField "PickleHouseModel" "now") ∈ lw_all := lw_g (lw_at lw_m6 114 rfl) rfl
theorem q1376 : (Jvm.Cond.lays "PickleHouseModel" "PickleHouseModel" "waste" "I") ∈ lw_all := lw_g (lw_at lw_m6 115 rfl) rfl
theorem q1377 : (Jvm.Cond.soleField "PickleHouseModel" "waste") ∈ lw_all := lw_g (lw_at lw_m6 116 rfl) rfl
theorem q1378 : (Jvm.Cond.laysFinal "PickleHouseModel" "PickleHouseModel" "warm" "[B") ∈ lw_all := lw_g (lw_at lw_m6 117 rfl) rfl
theorem q1379 : (Jvm.Cond.soleField "PickleHouseModel" "warm") ∈ lw_all := lw_g (lw_at lw_m6 118 rfl) rfl
theorem q1380 : (Jvm.Cond.laysFinal "PickleHouseModel" "PickleHouseModel" "isTold" "[Z") ∈ lw_all := lw_g (lw_at lw_m6 119 rfl) rfl
theorem q1381 : (Jvm.Cond.soleField "PickleHouseModel" "isTold") ∈ lw_all := lw_g (lw_at lw_m6 120 rfl) rfl
theorem q1382 : (Jvm.Cond.laysFinal "PickleHouseModel" "PickleHouseModel" "steps" "[I") ∈ lw_all := lw_g (lw_at lw_m6 121 rfl) rfl
theorem q1383 : (Jvm.Cond.soleField "PickleHouseModel" "steps") ∈ lw_all := lw_g (lw_at lw_m6 122 rfl) rfl
theorem q1384 : (Jvm.Cond.lays "PickleHouseModel" "PickleHouseModel" "tests" "I") ∈ lw_all := lw_g (lw_at lw_m6 123 rfl) rfl
theorem q1385 : (Jvm.Cond.soleField "PickleHouseModel" "tests") ∈ lw_all := lw_g (lw_at lw_m6 124 rfl) rfl
theorem q1386 : (Jvm.Cond.laysFinal "PickleHouseModel" "PickleHouseModel" "testCrock" "[I") ∈ lw_all := lw_g (lw_at lw_m6 125 rfl) rfl
theorem q1387 : (Jvm.Cond.soleField "PickleHouseModel" "testCrock") ∈ lw_all := lw_g (lw_at lw_m6 126 rfl) rfl
theorem q1388 : (Jvm.Cond.laysFinal "PickleHouseModel" "PickleHouseModel" "testHour" "[I") ∈ lw_all := lw_g (lw_at lw_m6 127 rfl) rfl
theorem q1389 : (Jvm.Cond.soleField "PickleHouseModel" "testHour") ∈ lw_all := lw_g (lw_at lw_m6 128 rfl) rfl
theorem q1390 : (Jvm.Cond.laysFinal "PickleHouseModel" "PickleHouseModel" "testValue" "[I") ∈ lw_all := lw_g (lw_at lw_m6 129 rfl) rfl
theorem q1391 : (Jvm.Cond.soleField "PickleHouseModel" "testValue") ∈ lw_all := lw_g (lw_at lw_m6 130 rfl) rfl
theorem q1392 : (Jvm.Cond.lays "PickleHouseModel" "PickleHouseModel" "recipes" "I") ∈ lw_all := lw_g (lw_at lw_m6 131 rfl) rfl
theorem q1393 : (Jvm.Cond.soleField "PickleHouseModel" "recipes") ∈ lw_all := lw_g (lw_at lw_m6 132 rfl) rfl
theorem q1394 : (Jvm.Cond.laysFinal "PickleHouseModel" "PickleHouseModel" "recipeDay" "[I") ∈ lw_all := lw_g (lw_at lw_m6 133 rfl) rfl
theorem q1395 : (Jvm.Cond.soleField "PickleHouseModel" "recipeDay") ∈ lw_all := lw_g (lw_at lw_m6 134 rfl) rfl
theorem q1396 : (Jvm.Cond.laysFinal "PickleHouseModel" "PickleHouseModel" "rules" "[I") ∈ lw_all := lw_g (lw_at lw_m6 135 rfl) rfl
theorem q1397 : (Jvm.Cond.soleField "PickleHouseModel" "rules") ∈ lw_all := lw_g (lw_at lw_m6 136 rfl) rfl
theorem q1398 : (Jvm.Cond.laysFinal "PickleHouseModel" "PickleHouseModel" "act" "[I") ∈ lw_all := lw_g (lw_at lw_m6 137 rfl) rfl
theorem q1399 : (Jvm.Cond.soleField "PickleHouseModel" "act") ∈ lw_all := lw_g (lw_at lw_m6 138 rfl) rfl
theorem q1400 : (Jvm.Cond.laysFinal "PickleHouseModel" "PickleHouseModel" "more" "[I") ∈ lw_all := lw_g (lw_at lw_m6 139 rfl) rfl
theorem q1401 : (Jvm.Cond.soleField "PickleHouseModel" "more") ∈ lw_all := lw_g (lw_at lw_m6 140 rfl) rfl
theorem q1402 : (Jvm.Cond.laysFinal "PickleHouseModel" "PickleHouseModel" "conditions" "[I") ∈ lw_all := lw_g (lw_at lw_m6 141 rfl) rfl
theorem q1403 : (Jvm.Cond.soleField "PickleHouseModel" "conditions") ∈ lw_all := lw_g (lw_at lw_m6 142 rfl) rfl
theorem q1404 : (Jvm.Cond.laysFinal "PickleHouseModel" "PickleHouseModel" "field" "[I") ∈ lw_all := lw_g (lw_at lw_m6 143 rfl) rfl
theorem q1405 : (Jvm.Cond.soleField "PickleHouseModel" "field") ∈ lw_all := lw_g (lw_at lw_m6 144 rfl) rfl
theorem q1406 : (Jvm.Cond.laysFinal "PickleHouseModel" "PickleHouseModel" "rel" "[I") ∈ lw_all := lw_g (lw_at lw_m6 145 rfl) rfl
theorem q1407 : (Jvm.Cond.soleField "PickleHouseModel" "rel") ∈ lw_all := lw_g (lw_at lw_m6 146 rfl) rfl
theorem q1408 : (Jvm.Cond.laysFinal "PickleHouseModel" "PickleHouseModel" "than" "[I") ∈ lw_all := lw_g (lw_at lw_m6 147 rfl) rfl
theorem q1409 : (Jvm.Cond.soleField "PickleHouseModel" "than") ∈ lw_all := lw_g (lw_at lw_m6 148 rfl) rfl
theorem q1410 : (Jvm.Cond.laysFinal "PickleHouseModel" "PickleHouseModel" "tape" "[B") ∈ lw_all := lw_g (lw_at lw_m6 149 rfl) rfl
theorem q1411 : (Jvm.Cond.soleField "PickleHouseModel" "tape") ∈ lw_all := lw_g (lw_at lw_m6 150 rfl) rfl
theorem q1412 : (Jvm.Cond.lays "PickleHouseModel" "PickleHouseModel" "taped" "I") ∈ lw_all := lw_g (lw_at lw_m6 151 rfl) rfl
theorem q1413 : (Jvm.Cond.soleField "PickleHouseModel" "taped") ∈ lw_all := lw_g (lw_at lw_m6 152 rfl) rfl
theorem q1414 : (Jvm.Cond.lays "PickleHouseModel" "PickleHouseModel" "faultKind" "I") ∈ lw_all := lw_g (lw_at lw_m6 153 rfl) rfl
theorem q1415 : (Jvm.Cond.soleField "PickleHouseModel" "faultKind") ∈ lw_all := lw_g (lw_at lw_m6 154 rfl) rfl
theorem q1416 : (Jvm.Cond.lays "PickleHouseModel" "PickleHouseModel" "faultPlace" "I") ∈ lw_all := lw_g (lw_at lw_m6 155 rfl) rfl
theorem q1417 : (Jvm.Cond.soleField "PickleHouseModel" "faultPlace") ∈ lw_all := lw_g (lw_at lw_m6 156 rfl) rfl
theorem q1418 : (Jvm.Cond.lays "PickleHouseModel" "PickleHouseModel" "kind" "I") ∈ lw_all := lw_g (lw_at lw_m6 157 rfl) rfl
theorem q1419 : (Jvm.Cond.soleField "PickleHouseModel" "kind") ∈ lw_all := lw_g (lw_at lw_m6 158 rfl) rfl
theorem q1420 : (Jvm.Cond.lays "PickleHouseModel" "PickleHouseModel" "from" "I") ∈ lw_all := lw_g (lw_at lw_m6 159 rfl) rfl
theorem q1421 : (Jvm.Cond.soleField "PickleHouseModel" "from") ∈ lw_all := lw_g (lw_at lw_m6 160 rfl) rfl
theorem q1422 : (Jvm.Cond.lays "PickleHouseModel" "PickleHouseModel" "over" "I") ∈ lw_all := lw_g (lw_at lw_m6 161 rfl) rfl
theorem q1423 : (Jvm.Cond.soleField "PickleHouseModel" "over") ∈ lw_all := lw_g (lw_at lw_m6 162 rfl) rfl
theorem q1424 : (Jvm.Cond.lays "PickleHouseModel" "PickleHouseModel" "value" "I") ∈ lw_all := lw_g (lw_at lw_m6 163 rfl) rfl
theorem q1425 : (Jvm.Cond.soleField "PickleHouseModel" "value") ∈ lw_all := lw_g (lw_at lw_m6 164 rfl) rfl
theorem q1426 : (Jvm.Cond.lays "PickleHouseModel" "PickleHouseModel" "jars" "I") ∈ lw_all := lw_g (lw_at lw_m6 165 rfl) rfl
theorem q1427 : (Jvm.Cond.soleField "PickleHouseModel" "jars") ∈ lw_all := lw_g (lw_at lw_m6 166 rfl) rfl
theorem q1428 : (Jvm.Cond.laysFinal "PickleHouseModel" "PickleHouseModel" "inJar" "[I") ∈ lw_all := lw_g (lw_at lw_m6 167 rfl) rfl
theorem q1429 : (Jvm.Cond.soleField "PickleHouseModel" "inJar") ∈ lw_all := lw_g (lw_at lw_m6 168 rfl) rfl
theorem q1430 : (Jvm.Cond.lays "PickleHouseModel" "PickleHouseModel" "limitLow" "I") ∈ lw_all := lw_g (lw_at lw_m6 169 rfl) rfl
theorem q1431 : (Jvm.Cond.soleField "PickleHouseModel" "limitLow") ∈ lw_all := lw_g (lw_at lw_m6 170 rfl) rfl
theorem q1432 : (Jvm.Cond.lays "PickleHouseModel" "PickleHouseModel" "limitHigh" "I") ∈ lw_all := lw_g (lw_at lw_m6 171 rfl) rfl
theorem q1433 : (Jvm.Cond.soleField "PickleHouseModel" "limitHigh") ∈ lw_all := lw_g (lw_at lw_m6 172 rfl) rfl
theorem q1434 : (Jvm.Cond.lays "PickleHouseModel" "PickleHouseModel" "orders" "I") ∈ lw_all := lw_g (lw_at lw_m6 173 rfl) rfl
theorem q1435 : (Jvm.Cond.soleField "PickleHouseModel" "orders") ∈ lw_all := lw_g (lw_at lw_m6 174 rfl) rfl
theorem q1436 : (Jvm.Cond.laysFinal "PickleHouseModel" "PickleHouseModel" "orderGrams" "[I") ∈ lw_all := lw_g (lw_at lw_m6 175 rfl) rfl
theorem q1437 : (Jvm.Cond.soleField "PickleHouseModel" "orderGrams") ∈ lw_all := lw_g (lw_at lw_m6 176 rfl) rfl
theorem q1438 : (Jvm.Cond.laysFinal "PickleHouseModel" "PickleHouseModel" "orderLow" "[I") ∈ lw_all := lw_g (lw_at lw_m6 177 rfl) rfl
theorem q1439 : (Jvm.Cond.soleField "PickleHouseModel" "orderLow") ∈ lw_all := lw_g (lw_at lw_m6 178 rfl) rfl
theorem q1440 : (Jvm.Cond.laysFinal "PickleHouseModel" "PickleHouseModel" "orderHigh" "[I") ∈ lw_all := lw_g (lw_at lw_m6 179 rfl) rfl
theorem q1441 : (Jvm.Cond.soleField "PickleHouseModel" "orderHigh") ∈ lw_all := lw_g (lw_at lw_m6 180 rfl) rfl
theorem q1442 : (Jvm.Cond.laysFinal "PickleHouseModel" "PickleHouseModel" "orderPrice" "[I") ∈ lw_all := lw_g (lw_at lw_m6 181 rfl) rfl
theorem q1443 : (Jvm.Cond.soleField "PickleHouseModel" "orderPrice") ∈ lw_all := lw_g (lw_at lw_m6 182 rfl) rfl
theorem q1444 : (Jvm.Cond.laysFinal "PickleHouseModel" "PickleHouseModel" "does" "[Z") ∈ lw_all := lw_g (lw_at lw_m6 183 rfl) rfl
theorem q1445 : (Jvm.Cond.soleField "PickleHouseModel" "does") ∈ lw_all := lw_g (lw_at lw_m6 184 rfl) rfl
theorem q1446 : (Jvm.Cond.laysFinal "PickleHouseModel" "PickleHouseModel" "tried" "[I") ∈ lw_all := lw_g (lw_at lw_m6 185 rfl) rfl
theorem q1447 : (Jvm.Cond.soleField "PickleHouseModel" "tried") ∈ lw_all := lw_g (lw_at lw_m6 186 rfl) rfl
theorem q1448 : (Jvm.Cond.laysFinal "PickleHouseModel" "PickleHouseModel" "best" "[I") ∈ lw_all := lw_g (lw_at lw_m6 187 rfl) rfl
theorem q1449 : (Jvm.Cond.soleField "PickleHouseModel" "best") ∈ lw_all := lw_g (lw_at lw_m6 188 rfl) rfl
theorem q1450 : (Jvm.Cond.lays "PickleHouseModel" "PickleHouseModel" "bestPrice" "I") ∈ lw_all := lw_g (lw_at lw_m6 189 rfl) rfl
theorem q1451 : (Jvm.Cond.soleField "PickleHouseModel" "bestPrice") ∈ lw_all := lw_g (lw_at lw_m6 190 rfl) rfl
theorem q1452 : (Jvm.Cond.lays "PickleHouseModel" "PickleHouseModel" "bestGrams" "I") ∈ lw_all := lw_g (lw_at lw_m6 191 rfl) rfl
theorem q1453 : (Jvm.Cond.soleField "PickleHouseModel" "bestGrams") ∈ lw_all := lw_g (lw_at lw_m6 192 rfl) rfl
theorem q1454 : (Jvm.Cond.superclass "PickleHouseModel" "java/lang/Object") ∈ lw_all := lw_g (lw_at lw_m6 193 rfl) rfl
theorem q1456 : (Jvm.Cond.instanceMethod ({ cls := "PickleHouseModel", name := "thrown", desc := "()I" } : Jvm.MethodName)) ∈ lw_all := lw_g (lw_at lw_m6 195 rfl) rfl
theorem q1457 : (Jvm.Cond.selects "PickleHouseModel" ({ cls := "PickleHouseModel", name := "thrown", desc := "()I" } : Jvm.MethodName) ({ cls := "PickleHouseModel", name := "thrown", desc := "()I" } : Jvm.MethodName)) ∈ lw_all := lw_g (lw_at lw_m6 196 rfl) rfl
theorem q1458 : (Jvm.Cond.code ({ cls := "PickleHouseModel", name := "thrown", desc := "()I" } : Jvm.MethodName) prog_20_method_2_code (1 : Nat) (Option.some Jvm.ClassFile.FieldType.int)) ∈ lw_all := lw_g (lw_at lw_m6 197 rfl) rfl
theorem q1460 : (Jvm.Cond.instanceMethod ({ cls := "PickleHouseModel", name := "lot", desc := "(I)I" } : Jvm.MethodName)) ∈ lw_all := lw_g (lw_at lw_m6 199 rfl) rfl
theorem q1461 : (Jvm.Cond.selects "PickleHouseModel" ({ cls := "PickleHouseModel", name := "lot", desc := "(I)I" } : Jvm.MethodName) ({ cls := "PickleHouseModel", name := "lot", desc := "(I)I" } : Jvm.MethodName)) ∈ lw_all := lw_g (lw_at lw_m6 200 rfl) rfl
theorem q1462 : (Jvm.Cond.code ({ cls := "PickleHouseModel", name := "lot", desc := "(I)I" } : Jvm.MethodName) prog_20_method_4_code (2 : Nat) (Option.some Jvm.ClassFile.FieldType.int)) ∈ lw_all := lw_g (lw_at lw_m6 201 rfl) rfl
theorem q1463 : (Jvm.Cond.constant "PickleHouseModel" (127 : Nat) (100000 : Int32)) ∈ lw_all := lw_g (lw_at lw_m6 202 rfl) rfl
theorem q1464 : (Jvm.Cond.methodLink "PickleHouseModel" (128 : Nat) ({ cls := "PickleHouseModel", name := "within", desc := "(III)Z" } : Jvm.MethodName)) ∈ lw_all := lw_g (lw_at lw_m6 203 rfl) rfl
theorem q1465 : (Jvm.Cond.static ({ cls := "PickleHouseModel", name := "within", desc := "(III)Z" } : Jvm.MethodName)) ∈ lw_all := lw_g (lw_at lw_m6 204 rfl) rfl
theorem q1466 : (Jvm.Cond.code ({ cls := "PickleHouseModel", name := "within", desc := "(III)Z" } : Jvm.MethodName) prog_20_method_3_code (3 : Nat) (Option.some Jvm.ClassFile.FieldType.boolean)) ∈ lw_all := lw_g (lw_at lw_m6 205 rfl) rfl
theorem q1468 : (Jvm.Cond.instanceMethod ({ cls := "PickleHouseModel", name := "crock", desc := "(II)I" } : Jvm.MethodName)) ∈ lw_all := lw_g (lw_at lw_m6 207 rfl) rfl
theorem q1469 : (Jvm.Cond.selects "PickleHouseModel" ({ cls := "PickleHouseModel", name := "crock", desc := "(II)I" } : Jvm.MethodName) ({ cls := "PickleHouseModel", name := "crock", desc := "(II)I" } : Jvm.MethodName)) ∈ lw_all := lw_g (lw_at lw_m6 208 rfl) rfl
theorem q1470 : (Jvm.Cond.code ({ cls := "PickleHouseModel", name := "crock", desc := "(II)I" } : Jvm.MethodName) prog_20_method_8_code (3 : Nat) (Option.some Jvm.ClassFile.FieldType.int)) ∈ lw_all := lw_g (lw_at lw_m6 209 rfl) rfl
theorem q1471 : (Jvm.Cond.methodLink "PickleHouseModel" (139 : Nat) ({ cls := "PickleHouseModel", name := "isFree", desc := "(I)Z" } : Jvm.MethodName)) ∈ lw_all := lw_g (lw_at lw_m6 210 rfl) rfl
theorem q1472 : (Jvm.Cond.privateMethod ({ cls := "PickleHouseModel", name := "isFree", desc := "(I)Z" } : Jvm.MethodName)) ∈ lw_tbl := lw_at lw_m6 211 rfl
theorem q1473 : (Jvm.Cond.instanceMethod ({ cls := "PickleHouseModel", name := "isFree", desc := "(I)Z" } : Jvm.MethodName)) ∈ lw_all := lw_g (lw_at lw_m6 212 rfl) rfl
theorem q1474 : (Jvm.Cond.code ({ cls := "PickleHouseModel", name := "isFree", desc := "(I)Z" } : Jvm.MethodName) prog_20_method_7_code (3 : Nat) (Option.some Jvm.ClassFile.FieldType.boolean)) ∈ lw_all := lw_g (lw_at lw_m6 213 rfl) rfl
theorem q1476 : (Jvm.Cond.instanceMethod ({ cls := "PickleHouseModel", name := "put", desc := "(III)I" } : Jvm.MethodName)) ∈ lw_all := lw_g (lw_at lw_m6 215 rfl) rfl
theorem q1477 : (Jvm.Cond.selects "PickleHouseModel" ({ cls := "PickleHouseModel", name := "put", desc := "(III)I" } : Jvm.MethodName) ({ cls := "PickleHouseModel", name := "put", desc := "(III)I" } : Jvm.MethodName)) ∈ lw_all := lw_g (lw_at lw_m6 216 rfl) rfl
theorem q1478 : (Jvm.Cond.code ({ cls := "PickleHouseModel", name := "put", desc := "(III)I" } : Jvm.MethodName) prog_20_method_10_code (4 : Nat) (Option.some Jvm.ClassFile.FieldType.int)) ∈ lw_all := lw_g (lw_at lw_m6 217 rfl) rfl
theorem q1479 : (Jvm.Cond.methodLink "PickleHouseModel" (145 : Nat) ({ cls := "PickleHouseModel", name := "lives", desc := "(I)Z" } : Jvm.MethodName)) ∈ lw_all := lw_g (lw_at lw_m6 218 rfl) rfl
theorem q1480 : (Jvm.Cond.privateMethod ({ cls := "PickleHouseModel", name := "lives", desc := "(I)Z" } : Jvm.MethodName)) ∈ lw_tbl := lw_at lw_m6 219 rfl
theorem q1481 : (Jvm.Cond.instanceMethod ({ cls := "PickleHouseModel", name := "lives", desc := "(I)Z" } : Jvm.MethodName)) ∈ lw_all := lw_g (lw_at lw_m6 220 rfl) rfl
theorem q1482 : (Jvm.Cond.code ({ cls := "PickleHouseModel", name := "lives", desc := "(I)Z" } : Jvm.MethodName) prog_20_method_6_code (2 : Nat) (Option.some Jvm.ClassFile.FieldType.boolean)) ∈ lw_all := lw_g (lw_at lw_m6 221 rfl) rfl
theorem q1483 : (Jvm.Cond.methodLink "PickleHouseModel" (135 : Nat) ({ cls := "PickleHouseModel", name := "isCrock", desc := "(I)Z" } : Jvm.MethodName)) ∈ lw_all := lw_g (lw_at lw_m6 222 rfl) rfl
theorem q1484 : (Jvm.Cond.privateMethod ({ cls := "PickleHouseModel", name := "isCrock", desc := "(I)Z" } : Jvm.MethodName)) ∈ lw_tbl := lw_at lw_m6 223 rfl
theorem q1485 : (Jvm.Cond.instanceMethod ({ cls := "PickleHouseModel", name := "isCrock", desc := "(I)Z" } : Jvm.MethodName)) ∈ lw_all := lw_g (lw_at lw_m6 224 rfl) rfl
theorem q1486 : (Jvm.Cond.code ({ cls := "PickleHouseModel", name := "isCrock", desc := "(I)Z" } : Jvm.MethodName) prog_20_method_5_code (2 : Nat) (Option.some Jvm.ClassFile.FieldType.boolean)) ∈ lw_all := lw_g (lw_at lw_m6 225 rfl) rfl
theorem q1487 : (Jvm.Cond.methodLink "PickleHouseModel" (148 : Nat) ({ cls := "PickleHouseModel", name := "grams", desc := "(I)I" } : Jvm.MethodName)) ∈ lw_all := lw_g (lw_at lw_m6 226 rfl) rfl
theorem q1488 : (Jvm.Cond.privateMethod ({ cls := "PickleHouseModel", name := "grams", desc := "(I)I" } : Jvm.MethodName)) ∈ lw_tbl := lw_at lw_m6 227 rfl
theorem q1489 : (Jvm.Cond.instanceMethod ({ cls := "PickleHouseModel", name := "grams", desc := "(I)I" } : Jvm.MethodName)) ∈ lw_all := lw_g (lw_at lw_m6 228 rfl) rfl
theorem q1490 : (Jvm.Cond.code ({ cls := "PickleHouseModel", name := "grams", desc := "(I)I" } : Jvm.MethodName) prog_20_method_9_code (4 : Nat) (Option.some Jvm.ClassFile.FieldType.int)) ∈ lw_all := lw_g (lw_at lw_m6 229 rfl) rfl
theorem q1492 : (Jvm.Cond.instanceMethod ({ cls := "PickleHouseModel", name := "part", desc := "(II)I" } : Jvm.MethodName)) ∈ lw_all := lw_g (lw_at lw_m6 231 rfl) rfl
theorem q1493 : (Jvm.Cond.selects "PickleHouseModel" ({ cls := "PickleHouseModel", name := "part", desc := "(II)I" } : Jvm.MethodName) ({ cls := "PickleHouseModel", name := "part", desc := "(II)I" } : Jvm.MethodName)) ∈ lw_all := lw_g (lw_at lw_m6 232 rfl) rfl
theorem q1494 : (Jvm.Cond.code ({ cls := "PickleHouseModel", name := "part", desc := "(II)I" } : Jvm.MethodName) prog_20_method_12_code (4 : Nat) (Option.some Jvm.ClassFile.FieldType.int)) ∈ lw_all := lw_g (lw_at lw_m6 233 rfl) rfl
theorem q1496 : (Jvm.Cond.instanceMethod ({ cls := "PickleHouseModel", name := "warmth", desc := "(III)Z" } : Jvm.MethodName)) ∈ lw_all := lw_g (lw_at lw_m6 235 rfl) rfl
theorem q1497 : (Jvm.Cond.selects "PickleHouseModel" ({ cls := "PickleHouseModel", name := "warmth", desc := "(III)Z" } : Jvm.MethodName) ({ cls := "PickleHouseModel", name := "warmth", desc := "(III)Z" } : Jvm.MethodName)) ∈ lw_all := lw_g (lw_at lw_m6 236 rfl) rfl
theorem q1498 : (Jvm.Cond.code ({ cls := "PickleHouseModel", name := "warmth", desc := "(III)Z" } : Jvm.MethodName) prog_20_method_13_code (4 : Nat) (Option.some Jvm.ClassFile.FieldType.boolean)) ∈ lw_all := lw_g (lw_at lw_m6 237 rfl) rfl
theorem q1500 : (Jvm.Cond.instanceMethod ({ cls := "PickleHouseModel", name := "test", desc := "(III)I" } : Jvm.MethodName)) ∈ lw_all := lw_g (lw_at lw_m6 239 rfl) rfl
theorem q1501 : (Jvm.Cond.selects "PickleHouseModel" ({ cls := "PickleHouseModel", name := "test", desc := "(III)I" } : Jvm.MethodName) ({ cls := "PickleHouseModel", name := "test", desc := "(III)I" } : Jvm.MethodName)) ∈ lw_all := lw_g (lw_at lw_m7 0 rfl) rfl
theorem q1502 : (Jvm.Cond.code ({ cls := "PickleHouseModel", name := "test", desc := "(III)I" } : Jvm.MethodName) prog_20_method_16_code (4 : Nat) (Option.some Jvm.ClassFile.FieldType.int)) ∈ lw_all := lw_g (lw_at lw_m7 1 rfl) rfl
theorem q1504 : (Jvm.Cond.instanceMethod ({ cls := "PickleHouseModel", name := "span", desc := "(IIII)I" } : Jvm.MethodName)) ∈ lw_all := lw_g (lw_at lw_m7 3 rfl) rfl
theorem q1505 : (Jvm.Cond.selects "PickleHouseModel" ({ cls := "PickleHouseModel", name := "span", desc := "(IIII)I" } : Jvm.MethodName) ({ cls := "PickleHouseModel", name := "span", desc := "(IIII)I" } : Jvm.MethodName)) ∈ lw_all := lw_g (lw_at lw_m7 4 rfl) rfl
theorem q1506 : (Jvm.Cond.code ({ cls := "PickleHouseModel", name := "span", desc := "(IIII)I" } : Jvm.MethodName) prog_20_method_19_code (5 : Nat) (Option.some Jvm.ClassFile.FieldType.int)) ∈ lw_all := lw_g (lw_at lw_m7 5 rfl) rfl
theorem q1507 : (Jvm.Cond.methodLink "PickleHouseModel" (166 : Nat) ({ cls := "PickleHouseModel", name := "spanOf", desc := "(IIIZ)I" } : Jvm.MethodName)) ∈ lw_all := lw_g (lw_at lw_m7 6 rfl) rfl
theorem q1508 : (Jvm.Cond.privateMethod ({ cls := "PickleHouseModel", name := "spanOf", desc := "(IIIZ)I" } : Jvm.MethodName)) ∈ lw_tbl := lw_at lw_m7 7 rfl
theorem q1509 : (Jvm.Cond.instanceMethod ({ cls := "PickleHouseModel", name := "spanOf", desc := "(IIIZ)I" } : Jvm.MethodName)) ∈ lw_all := lw_g (lw_at lw_m7 8 rfl) rfl
theorem q1510 : (Jvm.Cond.code ({ cls := "PickleHouseModel", name := "spanOf", desc := "(IIIZ)I" } : Jvm.MethodName) prog_20_method_18_code (10 : Nat) (Option.some Jvm.ClassFile.FieldType.int)) ∈ lw_all := lw_g (lw_at lw_m7 9 rfl) rfl
theorem q1511 : (Jvm.Cond.methodLink "PickleHouseModel" (162 : Nat) ({ cls := "PickleHouseModel", name := "latestTest", desc := "(III)I" } : Jvm.MethodName)) ∈ lw_all := lw_g (lw_at lw_m7 10 rfl) rfl
theorem q1512 : (Jvm.Cond.privateMethod ({ cls := "PickleHouseModel", name := "latestTest", desc := "(III)I" } : Jvm.MethodName)) ∈ lw_tbl := lw_at lw_m7 11 rfl
theorem q1513 : (Jvm.Cond.instanceMethod ({ cls := "PickleHouseModel", name := "latestTest", desc := "(III)I" } : Jvm.MethodName)) ∈ lw_all := lw_g (lw_at lw_m7 12 rfl) rfl
theorem q1514 : (Jvm.Cond.code ({ cls := "PickleHouseModel", name := "latestTest", desc := "(III)I" } : Jvm.MethodName) prog_20_method_17_code (6 : Nat) (Option.some Jvm.ClassFile.FieldType.int)) ∈ lw_all := lw_g (lw_at lw_m7 13 rfl) rfl
theorem q1516 : (Jvm.Cond.instanceMethod ({ cls := "PickleHouseModel", name := "feed", desc := "(IIIII)I" } : Jvm.MethodName)) ∈ lw_all := lw_g (lw_at lw_m7 15 rfl) rfl
theorem q1517 : (Jvm.Cond.selects "PickleHouseModel" ({ cls := "PickleHouseModel", name := "feed", desc := "(IIIII)I" } : Jvm.MethodName) ({ cls := "PickleHouseModel", name := "feed", desc := "(IIIII)I" } : Jvm.MethodName)) ∈ lw_all := lw_g (lw_at lw_m7 16 rfl) rfl
theorem q1518 : (Jvm.Cond.code ({ cls := "PickleHouseModel", name := "feed", desc := "(IIIII)I" } : Jvm.MethodName) prog_20_method_20_code (8 : Nat) (Option.some Jvm.ClassFile.FieldType.int)) ∈ lw_all := lw_g (lw_at lw_m7 17 rfl) rfl
theorem q1520 : (Jvm.Cond.instanceMethod ({ cls := "PickleHouseModel", name := "end", desc := "(I)I" } : Jvm.MethodName)) ∈ lw_all := lw_g (lw_at lw_m7 19 rfl) rfl
theorem q1521 : (Jvm.Cond.selects "PickleHouseModel" ({ cls := "PickleHouseModel", name := "end", desc := "(I)I" } : Jvm.MethodName) ({ cls := "PickleHouseModel", name := "end", desc := "(I)I" } : Jvm.MethodName)) ∈ lw_all := lw_g (lw_at lw_m7 20 rfl) rfl
theorem q1522 : (Jvm.Cond.code ({ cls := "PickleHouseModel", name := "end", desc := "(I)I" } : Jvm.MethodName) prog_20_method_21_code (2 : Nat) (Option.some Jvm.ClassFile.FieldType.int)) ∈ lw_all := lw_g (lw_at lw_m7 21 rfl) rfl
theorem q1524 : (Jvm.Cond.instanceMethod ({ cls := "PickleHouseModel", name := "recipe", desc := "(I)I" } : Jvm.MethodName)) ∈ lw_all := lw_g (lw_at lw_m7 23 rfl) rfl
theorem q1525 : (Jvm.Cond.selects "PickleHouseModel" ({ cls := "PickleHouseModel", name := "recipe", desc := "(I)I" } : Jvm.MethodName) ({ cls := "PickleHouseModel", name := "recipe", desc := "(I)I" } : Jvm.MethodName)) ∈ lw_all := lw_g (lw_at lw_m7 24 rfl) rfl
theorem q1526 : (Jvm.Cond.code ({ cls := "PickleHouseModel", name := "recipe", desc := "(I)I" } : Jvm.MethodName) prog_20_method_32_code (6 : Nat) (Option.some Jvm.ClassFile.FieldType.int)) ∈ lw_all := lw_g (lw_at lw_m7 25 rfl) rfl
theorem q1527 : (Jvm.Cond.methodLink "PickleHouseModel" (208 : Nat) ({ cls := "PickleHouseModel", name := "token", desc := "()V" } : Jvm.MethodName)) ∈ lw_all := lw_g (lw_at lw_m7 26 rfl) rfl
theorem q1528 : (Jvm.Cond.privateMethod ({ cls := "PickleHouseModel", name := "token", desc := "()V" } : Jvm.MethodName)) ∈ lw_tbl := lw_at lw_m7 27 rfl
theorem q1529 : (Jvm.Cond.instanceMethod ({ cls := "PickleHouseModel", name := "token", desc := "()V" } : Jvm.MethodName)) ∈ lw_all := lw_g (lw_at lw_m7 28 rfl) rfl
theorem q1530 : (Jvm.Cond.code ({ cls := "PickleHouseModel", name := "token", desc := "()V" } : Jvm.MethodName) prog_20_method_23_code (2 : Nat) (Option.none : Option Jvm.ClassFile.FieldType)) ∈ lw_all := lw_g (lw_at lw_m7 29 rfl) rfl
theorem q1531 : (Jvm.Cond.methodLink "PickleHouseModel" (179 : Nat) ({ cls := "PickleHouseModel", name := "byteAt", desc := "(I)I" } : Jvm.MethodName)) ∈ lw_all := lw_g (lw_at lw_m7 30 rfl) rfl
theorem q1532 : (Jvm.Cond.privateMethod ({ cls := "PickleHouseModel", name := "byteAt", desc := "(I)I" } : Jvm.MethodName)) ∈ lw_tbl := lw_at lw_m7 31 rfl
theorem q1533 : (Jvm.Cond.instanceMethod ({ cls := "PickleHouseModel", name := "byteAt", desc := "(I)I" } : Jvm.MethodName)) ∈ lw_all := lw_g (lw_at lw_m7 32 rfl) rfl
theorem q1534 : (Jvm.Cond.code ({ cls := "PickleHouseModel", name := "byteAt", desc := "(I)I" } : Jvm.MethodName) prog_20_method_22_code (2 : Nat) (Option.some Jvm.ClassFile.FieldType.int)) ∈ lw_all := lw_g (lw_at lw_m7 33 rfl) rfl
theorem q1535 : (Jvm.Cond.methodLink "PickleHouseModel" (248 : Nat) ({ cls := "PickleHouseModel", name := "rule", desc := "()Z" } : Jvm.MethodName)) ∈ lw_all := lw_g (lw_at lw_m7 34 rfl) rfl
theorem q1536 : (Jvm.Cond.privateMethod ({ cls := "PickleHouseModel", name := "rule", desc := "()Z" } : Jvm.MethodName)) ∈ lw_tbl := lw_at lw_m7 35 rfl
theorem q1537 : (Jvm.Cond.instanceMethod ({ cls := "PickleHouseModel", name := "rule", desc := "()Z" } : Jvm.MethodName)) ∈ lw_all := lw_g (lw_at lw_m7 36 rfl) rfl
theorem q1538 : (Jvm.Cond.code ({ cls := "PickleHouseModel", name := "rule", desc := "()Z" } : Jvm.MethodName) prog_20_method_31_code (5 : Nat) (Option.some Jvm.ClassFile.FieldType.boolean)) ∈ lw_all := lw_g (lw_at lw_m7 37 rfl) rfl
theorem q1539 : (Jvm.Cond.stringRef "PickleHouseModel" (228 : Nat) "if") ∈ lw_tbl := lw_at lw_m7 38 rfl
theorem q1540 : (Jvm.Cond.methodLink "PickleHouseModel" (201 : Nat) ({ cls := "PickleHouseModel", name := "is", desc := "(Ljava/lang/String;)Z" } : Jvm.MethodName)) ∈ lw_all := lw_g (lw_at lw_m7 39 rfl) rfl
theorem q1541 : (Jvm.Cond.privateMethod ({ cls := "PickleHouseModel", name := "is", desc := "(Ljava/lang/String;)Z" } : Jvm.MethodName)) ∈ lw_tbl := lw_at lw_m7 40 rfl
theorem q1542 : (Jvm.Cond.instanceMethod ({ cls := "PickleHouseModel", name := "is", desc := "(Ljava/lang/String;)Z" } : Jvm.MethodName)) ∈ lw_all := lw_g (lw_at lw_m7 41 rfl) rfl
theorem q1543 : (Jvm.Cond.code ({ cls := "PickleHouseModel", name := "is", desc := "(Ljava/lang/String;)Z" } : Jvm.MethodName) prog_20_method_24_code (4 : Nat) (Option.some Jvm.ClassFile.FieldType.boolean)) ∈ lw_all := lw_g (lw_at lw_m7 42 rfl) rfl
theorem q1544 : (Jvm.Cond.methodLink "PickleHouseModel" (191 : Nat) ({ cls := "java/lang/String", name := "length", desc := "()I" } : Jvm.MethodName)) ∈ lw_all := lw_g (lw_at lw_m7 43 rfl) rfl
theorem q1545 : (Jvm.Cond.methodLink "PickleHouseModel" (197 : Nat) ({ cls := "java/lang/String", name := "charAt", desc := "(I)C" } : Jvm.MethodName)) ∈ lw_all := lw_g (lw_at lw_m7 44 rfl) rfl
theorem q1546 : (Jvm.Cond.methodLink "PickleHouseModel" (230 : Nat) ({ cls := "PickleHouseModel", name := "actAtHand", desc := "()I" } : Jvm.MethodName)) ∈ lw_all := lw_g (lw_at lw_m7 45 rfl) rfl
theorem q1547 : (Jvm.Cond.privateMethod ({ cls := "PickleHouseModel", name := "actAtHand", desc := "()I" } : Jvm.MethodName)) ∈ lw_tbl := lw_at lw_m7 46 rfl
theorem q1548 : (Jvm.Cond.instanceMethod ({ cls := "PickleHouseModel", name := "actAtHand", desc := "()I" } : Jvm.MethodName)) ∈ lw_all := lw_g (lw_at lw_m7 47 rfl) rfl
theorem q1549 : (Jvm.Cond.code ({ cls := "PickleHouseModel", name := "actAtHand", desc := "()I" } : Jvm.MethodName) prog_20_method_28_code (1 : Nat) (Option.some Jvm.ClassFile.FieldType.int)) ∈ lw_all := lw_g (lw_at lw_m7 48 rfl) rfl
theorem q1550 : (Jvm.Cond.stringRef "PickleHouseModel" (211 : Nat) "press throw ready cool warm salt ") ∈ lw_tbl := lw_at lw_m7 49 rfl
theorem q1551 : (Jvm.Cond.methodLink "PickleHouseModel" (213 : Nat) ({ cls := "PickleHouseModel", name := "which", desc := "(Ljava/lang/String;)I" } : Jvm.MethodName)) ∈ lw_all := lw_g (lw_at lw_m7 50 rfl) rfl
theorem q1552 : (Jvm.Cond.privateMethod ({ cls := "PickleHouseModel", name := "which", desc := "(Ljava/lang/String;)I" } : Jvm.MethodName)) ∈ lw_tbl := lw_at lw_m7 51 rfl
theorem q1553 : (Jvm.Cond.instanceMethod ({ cls := "PickleHouseModel", name := "which", desc := "(Ljava/lang/String;)I" } : Jvm.MethodName)) ∈ lw_all := lw_g (lw_at lw_m7 52 rfl) rfl
theorem q1554 : (Jvm.Cond.code ({ cls := "PickleHouseModel", name := "which", desc := "(Ljava/lang/String;)I" } : Jvm.MethodName) prog_20_method_27_code (7 : Nat) (Option.some Jvm.ClassFile.FieldType.int)) ∈ lw_all := lw_g (lw_at lw_m7 53 rfl) rfl
theorem q1555 : (Jvm.Cond.methodLink "PickleHouseModel" (205 : Nat) ({ cls := "PickleHouseModel", name := "wrong", desc := "(I)Z" } : Jvm.MethodName)) ∈ lw_all := lw_g (lw_at lw_m7 54 rfl) rfl
theorem q1556 : (Jvm.Cond.privateMethod ({ cls := "PickleHouseModel", name := "wrong", desc := "(I)Z" } : Jvm.MethodName)) ∈ lw_tbl := lw_at lw_m7 55 rfl
theorem q1557 : (Jvm.Cond.instanceMethod ({ cls := "PickleHouseModel", name := "wrong", desc := "(I)Z" } : Jvm.MethodName)) ∈ lw_all := lw_g (lw_at lw_m7 56 rfl) rfl
theorem q1558 : (Jvm.Cond.code ({ cls := "PickleHouseModel", name := "wrong", desc := "(I)Z" } : Jvm.MethodName) prog_20_method_25_code (2 : Nat) (Option.some Jvm.ClassFile.FieldType.boolean)) ∈ lw_all := lw_g (lw_at lw_m7 57 rfl) rfl
theorem q1559 : (Jvm.Cond.methodLink "PickleHouseModel" (233 : Nat) ({ cls := "PickleHouseModel", name := "condition", desc := "(I)Z" } : Jvm.MethodName)) ∈ lw_all := lw_g (lw_at lw_m7 58 rfl) rfl
theorem q1560 : (Jvm.Cond.privateMethod ({ cls := "PickleHouseModel", name := "condition", desc := "(I)Z" } : Jvm.MethodName)) ∈ lw_tbl := lw_at lw_m7 59 rfl
theorem q1561 : (Jvm.Cond.instanceMethod ({ cls := "PickleHouseModel", name := "condition", desc := "(I)Z" } : Jvm.MethodName)) ∈ lw_all := lw_g (lw_at lw_m7 60 rfl) rfl
theorem q1562 : (Jvm.Cond.code ({ cls := "PickleHouseModel", name := "condition", desc := "(I)Z" } : Jvm.MethodName) prog_20_method_30_code (4 : Nat) (Option.some Jvm.ClassFile.FieldType.boolean)) ∈ lw_all := lw_g (lw_at lw_m7 61 rfl) rfl
theorem q1563 : (Jvm.Cond.stringRef "PickleHouseModel" (217 : Nat) "low high gas salt hours tests cold day ") ∈ lw_tbl := lw_at lw_m7 62 rfl
theorem q1564 : (Jvm.Cond.stringRef "PickleHouseModel" (219 : Nat) "<") ∈ lw_tbl := lw_at lw_m7 63 rfl
theorem q1565 : (Jvm.Cond.stringRef "PickleHouseModel" (221 : Nat) "=") ∈ lw_tbl := lw_at lw_m7 64 rfl
theorem q1566 : (Jvm.Cond.stringRef "PickleHouseModel" (223 : Nat) ">") ∈ lw_tbl := lw_at lw_m7 65 rfl
theorem q1567 : (Jvm.Cond.methodLink "PickleHouseModel" (225 : Nat) ({ cls := "PickleHouseModel", name := "number", desc := "()I" } : Jvm.MethodName)) ∈ lw_all := lw_g (lw_at lw_m7 66 rfl) rfl
theorem q1568 : (Jvm.Cond.privateMethod ({ cls := "PickleHouseModel", name := "number", desc := "()I" } : Jvm.MethodName)) ∈ lw_tbl := lw_at lw_m7 67 rfl
theorem q1569 : (Jvm.Cond.instanceMethod ({ cls := "PickleHouseModel", name := "number", desc := "()I" } : Jvm.MethodName)) ∈ lw_all := lw_g (lw_at lw_m7 68 rfl) rfl
theorem q1570 : (Jvm.Cond.code ({ cls := "PickleHouseModel", name := "number", desc := "()I" } : Jvm.MethodName) prog_20_method_29_code (2 : Nat) (Option.some Jvm.ClassFile.FieldType.int)) ∈ lw_all := lw_g (lw_at lw_m7 69 rfl) rfl
theorem q1571 : (Jvm.Cond.stringRef "PickleHouseModel" (236 : Nat) "and") ∈ lw_tbl := lw_at lw_m7 70 rfl
theorem q1572 : (Jvm.Cond.stringRef "PickleHouseModel" (238 : Nat) ":") ∈ lw_tbl := lw_at lw_m7 71 rfl
theorem q1573 : (Jvm.Cond.methodLink "PickleHouseModel" (240 : Nat) ({ cls := "PickleHouseModel", name := "must", desc := "(Ljava/lang/String;)Z" } : Jvm.MethodName)) ∈ lw_all := lw_g (lw_at lw_m7 72 rfl) rfl
theorem q1574 : (Jvm.Cond.privateMethod ({ cls := "PickleHouseModel", name := "must", desc := "(Ljava/lang/String;)Z" } : Jvm.MethodName)) ∈ lw_tbl := lw_at lw_m7 73 rfl
theorem q1575 : (Jvm.Cond.instanceMethod ({ cls := "PickleHouseModel", name := "must", desc := "(Ljava/lang/String;)Z" } : Jvm.MethodName)) ∈ lw_all := lw_g (lw_at lw_m7 74 rfl) rfl
theorem q1576 : (Jvm.Cond.code ({ cls := "PickleHouseModel", name := "must", desc := "(Ljava/lang/String;)Z" } : Jvm.MethodName) prog_20_method_26_code (2 : Nat) (Option.some Jvm.ClassFile.FieldType.boolean)) ∈ lw_all := lw_g (lw_at lw_m7 75 rfl) rfl
theorem q1577 : (Jvm.Cond.stringRef "PickleHouseModel" (243 : Nat) ";") ∈ lw_tbl := lw_at lw_m7 76 rfl
theorem q1579 : (Jvm.Cond.instanceMethod ({ cls := "PickleHouseModel", name := "place", desc := "()I" } : Jvm.MethodName)) ∈ lw_all := lw_g (lw_at lw_m7 78 rfl) rfl
theorem q1580 : (Jvm.Cond.selects "PickleHouseModel" ({ cls := "PickleHouseModel", name := "place", desc := "()I" } : Jvm.MethodName) ({ cls := "PickleHouseModel", name := "place", desc := "()I" } : Jvm.MethodName)) ∈ lw_all := lw_g (lw_at lw_m7 79 rfl) rfl
theorem q1581 : (Jvm.Cond.code ({ cls := "PickleHouseModel", name := "place", desc := "()I" } : Jvm.MethodName) prog_20_method_33_code (1 : Nat) (Option.some Jvm.ClassFile.FieldType.int)) ∈ lw_all := lw_g (lw_at lw_m7 80 rfl) rfl
theorem q1583 : (Jvm.Cond.instanceMethod ({ cls := "PickleHouseModel", name := "hours", desc := "(I)I" } : Jvm.MethodName)) ∈ lw_all := lw_g (lw_at lw_m7 82 rfl) rfl
theorem q1584 : (Jvm.Cond.selects "PickleHouseModel" ({ cls := "PickleHouseModel", name := "hours", desc := "(I)I" } : Jvm.MethodName) ({ cls := "PickleHouseModel", name := "hours", desc := "(I)I" } : Jvm.MethodName)) ∈ lw_all := lw_g (lw_at lw_m7 83 rfl) rfl
theorem q1585 : (Jvm.Cond.code ({ cls := "PickleHouseModel", name := "hours", desc := "(I)I" } : Jvm.MethodName) prog_20_method_40_code (6 : Nat) (Option.some Jvm.ClassFile.FieldType.int)) ∈ lw_all := lw_g (lw_at lw_m7 84 rfl) rfl
theorem q1586 : (Jvm.Cond.methodLink "PickleHouseModel" (266 : Nat) ({ cls := "PickleHouseModel", name := "inForce", desc := "()I" } : Jvm.MethodName)) ∈ lw_all := lw_g (lw_at lw_m7 85 rfl) rfl
theorem q1587 : (Jvm.Cond.privateMethod ({ cls := "PickleHouseModel", name := "inForce", desc := "()I" } : Jvm.MethodName)) ∈ lw_tbl := lw_at lw_m7 86 rfl
theorem q1588 : (Jvm.Cond.instanceMethod ({ cls := "PickleHouseModel", name := "inForce", desc := "()I" } : Jvm.MethodName)) ∈ lw_all := lw_g (lw_at lw_m7 87 rfl) rfl
theorem q1589 : (Jvm.Cond.code ({ cls := "PickleHouseModel", name := "inForce", desc := "()I" } : Jvm.MethodName) prog_20_method_34_code (3 : Nat) (Option.some Jvm.ClassFile.FieldType.int)) ∈ lw_all := lw_g (lw_at lw_m7 88 rfl) rfl
theorem q1590 : (Jvm.Cond.methodLink "PickleHouseModel" (269 : Nat) ({ cls := "PickleHouseModel", name := "holds", desc := "(II)Z" } : Jvm.MethodName)) ∈ lw_all := lw_g (lw_at lw_m7 89 rfl) rfl
theorem q1591 : (Jvm.Cond.privateMethod ({ cls := "PickleHouseModel", name := "holds", desc := "(II)Z" } : Jvm.MethodName)) ∈ lw_tbl := lw_at lw_m7 90 rfl
theorem q1592 : (Jvm.Cond.instanceMethod ({ cls := "PickleHouseModel", name := "holds", desc := "(II)Z" } : Jvm.MethodName)) ∈ lw_all := lw_g (lw_at lw_m7 91 rfl) rfl
theorem q1593 : (Jvm.Cond.code ({ cls := "PickleHouseModel", name := "holds", desc := "(II)Z" } : Jvm.MethodName) prog_20_method_37_code (6 : Nat) (Option.some Jvm.ClassFile.FieldType.boolean)) ∈ lw_all := lw_g (lw_at lw_m7 92 rfl) rfl
theorem q1594 : (Jvm.Cond.methodLink "PickleHouseModel" (255 : Nat) ({ cls := "PickleHouseModel", name := "fieldOf", desc := "(II)I" } : Jvm.MethodName)) ∈ lw_all := lw_g (lw_at lw_m7 93 rfl) rfl
theorem q1595 : (Jvm.Cond.privateMethod ({ cls := "PickleHouseModel", name := "fieldOf", desc := "(II)I" } : Jvm.MethodName)) ∈ lw_tbl := lw_at lw_m7 94 rfl
theorem q1596 : (Jvm.Cond.instanceMethod ({ cls := "PickleHouseModel", name := "fieldOf", desc := "(II)I" } : Jvm.MethodName)) ∈ lw_all := lw_g (lw_at lw_m7 95 rfl) rfl
theorem q1597 : (Jvm.Cond.code ({ cls := "PickleHouseModel", name := "fieldOf", desc := "(II)I" } : Jvm.MethodName) prog_20_method_36_code (3 : Nat) (Option.some Jvm.ClassFile.FieldType.int)) ∈ lw_all := lw_g (lw_at lw_m7 96 rfl) rfl
theorem q1598 : (Jvm.Cond.methodLink "PickleHouseModel" (252 : Nat) ({ cls := "PickleHouseModel", name := "testsOf", desc := "(I)I" } : Jvm.MethodName)) ∈ lw_all := lw_g (lw_at lw_m7 97 rfl) rfl
theorem q1599 : (Jvm.Cond.privateMethod ({ cls := "PickleHouseModel", name := "testsOf", desc := "(I)I" } : Jvm.MethodName)) ∈ lw_tbl := lw_at lw_m7 98 rfl
theorem q1600 : (Jvm.Cond.instanceMethod ({ cls := "PickleHouseModel", name := "testsOf", desc := "(I)I" } : Jvm.MethodName)) ∈ lw_all := lw_g (lw_at lw_m7 99 rfl) rfl
theorem q1601 : (Jvm.Cond.code ({ cls := "PickleHouseModel", name := "testsOf", desc := "(I)I" } : Jvm.MethodName) prog_20_method_35_code (4 : Nat) (Option.some Jvm.ClassFile.FieldType.int)) ∈ lw_all := lw_g (lw_at lw_m7 100 rfl) rfl
theorem q1602 : (Jvm.Cond.methodLink "PickleHouseModel" (273 : Nat) ({ cls := "PickleHouseModel", name := "acts", desc := "(II)V" } : Jvm.MethodName)) ∈ lw_all := lw_g (lw_at lw_m7 101 rfl) rfl
theorem q1603 : (Jvm.Cond.privateMethod ({ cls := "PickleHouseModel", name := "acts", desc := "(II)V" } : Jvm.MethodName)) ∈ lw_tbl := lw_at lw_m7 102 rfl
theorem q1604 : (Jvm.Cond.instanceMethod ({ cls := "PickleHouseModel", name := "acts", desc := "(II)V" } : Jvm.MethodName)) ∈ lw_all := lw_g (lw_at lw_m7 103 rfl) rfl
theorem q1605 : (Jvm.Cond.code ({ cls := "PickleHouseModel", name := "acts", desc := "(II)V" } : Jvm.MethodName) prog_20_method_39_code (3 : Nat) (Option.none : Option Jvm.ClassFile.FieldType)) ∈ lw_all := lw_g (lw_at lw_m7 104 rfl) rfl
theorem q1606 : (Jvm.Cond.methodLink "PickleHouseModel" (258 : Nat) ({ cls := "PickleHouseModel", name := "goes", desc := "(II)V" } : Jvm.MethodName)) ∈ lw_all := lw_g (lw_at lw_m7 105 rfl) rfl
theorem q1607 : (Jvm.Cond.privateMethod ({ cls := "PickleHouseModel", name := "goes", desc := "(II)V" } : Jvm.MethodName)) ∈ lw_tbl := lw_at lw_m7 106 rfl
theorem q1608 : (Jvm.Cond.instanceMethod ({ cls := "PickleHouseModel", name := "goes", desc := "(II)V" } : Jvm.MethodName)) ∈ lw_all := lw_g (lw_at lw_m7 107 rfl) rfl
theorem q1609 : (Jvm.Cond.code ({ cls := "PickleHouseModel", name := "goes", desc := "(II)V" } : Jvm.MethodName) prog_20_method_11_code (4 : Nat) (Option.none : Option Jvm.ClassFile.FieldType)) ∈ lw_all := lw_g (lw_at lw_m7 108 rfl) rfl
theorem q1610 : (Jvm.Cond.methodLink "PickleHouseModel" (262 : Nat) ({ cls := "PickleHouseModel", name := "moves", desc := "(III)V" } : Jvm.MethodName)) ∈ lw_all := lw_g (lw_at lw_m7 109 rfl) rfl
theorem q1611 : (Jvm.Cond.privateMethod ({ cls := "PickleHouseModel", name := "moves", desc := "(III)V" } : Jvm.MethodName)) ∈ lw_tbl := lw_at lw_m7 110 rfl
theorem q1612 : (Jvm.Cond.instanceMethod ({ cls := "PickleHouseModel", name := "moves", desc := "(III)V" } : Jvm.MethodName)) ∈ lw_all := lw_g (lw_at lw_m7 111 rfl) rfl
theorem q1613 : (Jvm.Cond.code ({ cls := "PickleHouseModel", name := "moves", desc := "(III)V" } : Jvm.MethodName) prog_20_method_38_code (5 : Nat) (Option.none : Option Jvm.ClassFile.FieldType)) ∈ lw_all := lw_g (lw_at lw_m7 112 rfl) rfl
theorem q1614 : (Jvm.Cond.methodLink "PickleHouseModel" (276 : Nat) ({ cls := "PickleHouseModel", name := "rateOf", desc := "(II)I" } : Jvm.MethodName)) ∈ lw_all := lw_g (lw_at lw_m7 113 rfl) rfl
theorem q1615 : (Jvm.Cond.privateMethod ({ cls := "PickleHouseModel", name := "rateOf", desc := "(II)I" } : Jvm.MethodName)) ∈ lw_tbl := lw_at lw_m7 114 rfl
theorem q1616 : (Jvm.Cond.instanceMethod ({ cls := "PickleHouseModel", name := "rateOf", desc := "(II)I" } : Jvm.MethodName)) ∈ lw_all := lw_g (lw_at lw_m7 115 rfl) rfl
theorem q1617 : (Jvm.Cond.code ({ cls := "PickleHouseModel", name := "rateOf", desc := "(II)I" } : Jvm.MethodName) prog_20_method_15_code (3 : Nat) (Option.some Jvm.ClassFile.FieldType.int)) ∈ lw_all := lw_g (lw_at lw_m7 116 rfl) rfl
theorem q1618 : (Jvm.Cond.methodLink "PickleHouseModel" (155 : Nat) ({ cls := "PickleHouseModel", name := "warmthIn", desc := "(II)I" } : Jvm.MethodName)) ∈ lw_all := lw_g (lw_at lw_m7 117 rfl) rfl
theorem q1619 : (Jvm.Cond.privateMethod ({ cls := "PickleHouseModel", name := "warmthIn", desc := "(II)I" } : Jvm.MethodName)) ∈ lw_tbl := lw_at lw_m7 118 rfl
theorem q1620 : (Jvm.Cond.instanceMethod ({ cls := "PickleHouseModel", name := "warmthIn", desc := "(II)I" } : Jvm.MethodName)) ∈ lw_all := lw_g (lw_at lw_m7 119 rfl) rfl
theorem q1621 : (Jvm.Cond.code ({ cls := "PickleHouseModel", name := "warmthIn", desc := "(II)I" } : Jvm.MethodName) prog_20_method_14_code (4 : Nat) (Option.some Jvm.ClassFile.FieldType.int)) ∈ lw_all := lw_g (lw_at lw_m7 120 rfl) rfl
theorem q1623 : (Jvm.Cond.instanceMethod ({ cls := "PickleHouseModel", name := "pour", desc := "(II)I" } : Jvm.MethodName)) ∈ lw_all := lw_g (lw_at lw_m7 122 rfl) rfl
theorem q1624 : (Jvm.Cond.selects "PickleHouseModel" ({ cls := "PickleHouseModel", name := "pour", desc := "(II)I" } : Jvm.MethodName) ({ cls := "PickleHouseModel", name := "pour", desc := "(II)I" } : Jvm.MethodName)) ∈ lw_all := lw_g (lw_at lw_m7 123 rfl) rfl
theorem q1625 : (Jvm.Cond.code ({ cls := "PickleHouseModel", name := "pour", desc := "(II)I" } : Jvm.MethodName) prog_20_method_43_code (10 : Nat) (Option.some Jvm.ClassFile.FieldType.int)) ∈ lw_all := lw_g (lw_at lw_m7 124 rfl) rfl
theorem q1627 : (Jvm.Cond.instanceMethod ({ cls := "PickleHouseModel", name := "limits", desc := "(II)Z" } : Jvm.MethodName)) ∈ lw_all := lw_g (lw_at lw_m7 126 rfl) rfl
theorem q1628 : (Jvm.Cond.selects "PickleHouseModel" ({ cls := "PickleHouseModel", name := "limits", desc := "(II)Z" } : Jvm.MethodName) ({ cls := "PickleHouseModel", name := "limits", desc := "(II)Z" } : Jvm.MethodName)) ∈ lw_all := lw_g (lw_at lw_m7 127 rfl) rfl
theorem q1629 : (Jvm.Cond.code ({ cls := "PickleHouseModel", name := "limits", desc := "(II)Z" } : Jvm.MethodName) prog_20_method_44_code (3 : Nat) (Option.some Jvm.ClassFile.FieldType.boolean)) ∈ lw_all := lw_g (lw_at lw_m7 128 rfl) rfl
theorem q1631 : (Jvm.Cond.instanceMethod ({ cls := "PickleHouseModel", name := "jar", desc := "(II)I" } : Jvm.MethodName)) ∈ lw_all := lw_g (lw_at lw_m7 130 rfl) rfl
theorem q1632 : (Jvm.Cond.selects "PickleHouseModel" ({ cls := "PickleHouseModel", name := "jar", desc := "(II)I" } : Jvm.MethodName) ({ cls := "PickleHouseModel", name := "jar", desc := "(II)I" } : Jvm.MethodName)) ∈ lw_all := lw_g (lw_at lw_m7 131 rfl) rfl
theorem q1633 : (Jvm.Cond.code ({ cls := "PickleHouseModel", name := "jar", desc := "(II)I" } : Jvm.MethodName) prog_20_method_46_code (4 : Nat) (Option.some Jvm.ClassFile.FieldType.int)) ∈ lw_all := lw_g (lw_at lw_m7 132 rfl) rfl
theorem q1634 : (Jvm.Cond.methodLink "PickleHouseModel" (289 : Nat) ({ cls := "PickleHouseModel", name := "isFit", desc := "(I)Z" } : Jvm.MethodName)) ∈ lw_all := lw_g (lw_at lw_m7 133 rfl) rfl
theorem q1635 : (Jvm.Cond.privateMethod ({ cls := "PickleHouseModel", name := "isFit", desc := "(I)Z" } : Jvm.MethodName)) ∈ lw_tbl := lw_at lw_m7 134 rfl
theorem q1636 : (Jvm.Cond.instanceMethod ({ cls := "PickleHouseModel", name := "isFit", desc := "(I)Z" } : Jvm.MethodName)) ∈ lw_all := lw_g (lw_at lw_m7 135 rfl) rfl
theorem q1637 : (Jvm.Cond.code ({ cls := "PickleHouseModel", name := "isFit", desc := "(I)Z" } : Jvm.MethodName) prog_20_method_45_code (3 : Nat) (Option.some Jvm.ClassFile.FieldType.boolean)) ∈ lw_all := lw_g (lw_at lw_m7 136 rfl) rfl
theorem q1638 : (Jvm.Cond.methodLink "PickleHouseModel" (292 : Nat) ({ cls := "PickleHouseModel", name := "parts", desc := "(III)V" } : Jvm.MethodName)) ∈ lw_all := lw_g (lw_at lw_m7 137 rfl) rfl
theorem q1639 : (Jvm.Cond.privateMethod ({ cls := "PickleHouseModel", name := "parts", desc := "(III)V" } : Jvm.MethodName)) ∈ lw_tbl := lw_at lw_m7 138 rfl
theorem q1640 : (Jvm.Cond.instanceMethod ({ cls := "PickleHouseModel", name := "parts", desc := "(III)V" } : Jvm.MethodName)) ∈ lw_all := lw_g (lw_at lw_m7 139 rfl) rfl
theorem q1641 : (Jvm.Cond.code ({ cls := "PickleHouseModel", name := "parts", desc := "(III)V" } : Jvm.MethodName) prog_20_method_41_code (10 : Nat) (Option.none : Option Jvm.ClassFile.FieldType)) ∈ lw_all := lw_g (lw_at lw_m7 140 rfl) rfl
theorem q1642 : (Jvm.Cond.methodLink "PickleHouseModel" (279 : Nat) ({ cls := "PickleHouseModel", name := "rest", desc := "(IIII)J" } : Jvm.MethodName)) ∈ lw_all := lw_g (lw_at lw_m7 141 rfl) rfl
theorem q1643 : (Jvm.Cond.privateMethod ({ cls := "PickleHouseModel", name := "rest", desc := "(IIII)J" } : Jvm.MethodName)) ∈ lw_tbl := lw_at lw_m7 142 rfl
theorem q1644 : (Jvm.Cond.instanceMethod ({ cls := "PickleHouseModel", name := "rest", desc := "(IIII)J" } : Jvm.MethodName)) ∈ lw_all := lw_g (lw_at lw_m7 143 rfl) rfl
theorem q1645 : (Jvm.Cond.code ({ cls := "PickleHouseModel", name := "rest", desc := "(IIII)J" } : Jvm.MethodName) prog_20_method_42_code (5 : Nat) (Option.some Jvm.ClassFile.FieldType.long)) ∈ lw_all := lw_g (lw_at lw_m7 144 rfl) rfl
theorem q1647 : (Jvm.Cond.instanceMethod ({ cls := "PickleHouseModel", name := "inJar", desc := "(II)I" } : Jvm.MethodName)) ∈ lw_all := lw_g (lw_at lw_m7 146 rfl) rfl
theorem q1648 : (Jvm.Cond.selects "PickleHouseModel" ({ cls := "PickleHouseModel", name := "inJar", desc := "(II)I" } : Jvm.MethodName) ({ cls := "PickleHouseModel", name := "inJar", desc := "(II)I" } : Jvm.MethodName)) ∈ lw_all := lw_g (lw_at lw_m7 147 rfl) rfl
theorem q1649 : (Jvm.Cond.code ({ cls := "PickleHouseModel", name := "inJar", desc := "(II)I" } : Jvm.MethodName) prog_20_method_47_code (3 : Nat) (Option.some Jvm.ClassFile.FieldType.int)) ∈ lw_all := lw_g (lw_at lw_m7 148 rfl) rfl
theorem q1651 : (Jvm.Cond.instanceMethod ({ cls := "PickleHouseModel", name := "called", desc := "(I)I" } : Jvm.MethodName)) ∈ lw_all := lw_g (lw_at lw_m7 150 rfl) rfl
theorem q1652 : (Jvm.Cond.selects "PickleHouseModel" ({ cls := "PickleHouseModel", name := "called", desc := "(I)I" } : Jvm.MethodName) ({ cls := "PickleHouseModel", name := "called", desc := "(I)I" } : Jvm.MethodName)) ∈ lw_all := lw_g (lw_at lw_m7 151 rfl) rfl
theorem q1653 : (Jvm.Cond.code ({ cls := "PickleHouseModel", name := "called", desc := "(I)I" } : Jvm.MethodName) prog_20_method_48_code (4 : Nat) (Option.some Jvm.ClassFile.FieldType.int)) ∈ lw_all := lw_g (lw_at lw_m7 152 rfl) rfl
theorem q1655 : (Jvm.Cond.instanceMethod ({ cls := "PickleHouseModel", name := "order", desc := "(IIII)I" } : Jvm.MethodName)) ∈ lw_all := lw_g (lw_at lw_m7 154 rfl) rfl
theorem q1656 : (Jvm.Cond.selects "PickleHouseModel" ({ cls := "PickleHouseModel", name := "order", desc := "(IIII)I" } : Jvm.MethodName) ({ cls := "PickleHouseModel", name := "order", desc := "(IIII)I" } : Jvm.MethodName)) ∈ lw_all := lw_g (lw_at lw_m7 155 rfl) rfl
theorem q1657 : (Jvm.Cond.code ({ cls := "PickleHouseModel", name := "order", desc := "(IIII)I" } : Jvm.MethodName) prog_20_method_49_code (5 : Nat) (Option.some Jvm.ClassFile.FieldType.int)) ∈ lw_all := lw_g (lw_at lw_m7 156 rfl) rfl
theorem q1659 : (Jvm.Cond.instanceMethod ({ cls := "PickleHouseModel", name := "clear", desc := "()I" } : Jvm.MethodName)) ∈ lw_all := lw_g (lw_at lw_m7 158 rfl) rfl
theorem q1660 : (Jvm.Cond.selects "PickleHouseModel" ({ cls := "PickleHouseModel", name := "clear", desc := "()I" } : Jvm.MethodName) ({ cls := "PickleHouseModel", name := "clear", desc := "()I" } : Jvm.MethodName)) ∈ lw_all := lw_g (lw_at lw_m7 159 rfl) rfl
theorem q1661 : (Jvm.Cond.code ({ cls := "PickleHouseModel", name := "clear", desc := "()I" } : Jvm.MethodName) prog_20_method_50_code (2 : Nat) (Option.some Jvm.ClassFile.FieldType.int)) ∈ lw_all := lw_g (lw_at lw_m7 160 rfl) rfl
theorem q1663 : (Jvm.Cond.instanceMethod ({ cls := "PickleHouseModel", name := "meets", desc := "(II)I" } : Jvm.MethodName)) ∈ lw_all := lw_g (lw_at lw_m7 162 rfl) rfl
theorem q1664 : (Jvm.Cond.selects "PickleHouseModel" ({ cls := "PickleHouseModel", name := "meets", desc := "(II)I" } : Jvm.MethodName) ({ cls := "PickleHouseModel", name := "meets", desc := "(II)I" } : Jvm.MethodName)) ∈ lw_all := lw_g (lw_at lw_m7 163 rfl) rfl
theorem q1665 : (Jvm.Cond.code ({ cls := "PickleHouseModel", name := "meets", desc := "(II)I" } : Jvm.MethodName) prog_20_method_52_code (3 : Nat) (Option.some Jvm.ClassFile.FieldType.int)) ∈ lw_all := lw_g (lw_at lw_m7 164 rfl) rfl
theorem q1666 : (Jvm.Cond.methodLink "PickleHouseModel" (298 : Nat) ({ cls := "PickleHouseModel", name := "doesMeet", desc := "(II)Z" } : Jvm.MethodName)) ∈ lw_all := lw_g (lw_at lw_m7 165 rfl) rfl
theorem q1667 : (Jvm.Cond.privateMethod ({ cls := "PickleHouseModel", name := "doesMeet", desc := "(II)Z" } : Jvm.MethodName)) ∈ lw_tbl := lw_at lw_m7 166 rfl
theorem q1668 : (Jvm.Cond.instanceMethod ({ cls := "PickleHouseModel", name := "doesMeet", desc := "(II)Z" } : Jvm.MethodName)) ∈ lw_all := lw_g (lw_at lw_m7 167 rfl) rfl
theorem q1669 : (Jvm.Cond.code ({ cls := "PickleHouseModel", name := "doesMeet", desc := "(II)Z" } : Jvm.MethodName) prog_20_method_51_code (3 : Nat) (Option.some Jvm.ClassFile.FieldType.boolean)) ∈ lw_all := lw_g (lw_at lw_m7 168 rfl) rfl
theorem q1671 : (Jvm.Cond.instanceMethod ({ cls := "PickleHouseModel", name := "plan", desc := "()I" } : Jvm.MethodName)) ∈ lw_all := lw_g (lw_at lw_m7 170 rfl) rfl
theorem q1672 : (Jvm.Cond.selects "PickleHouseModel" ({ cls := "PickleHouseModel", name := "plan", desc := "()I" } : Jvm.MethodName) ({ cls := "PickleHouseModel", name := "plan", desc := "()I" } : Jvm.MethodName)) ∈ lw_all := lw_g (lw_at lw_m7 171 rfl) rfl
theorem q1673 : (Jvm.Cond.code ({ cls := "PickleHouseModel", name := "plan", desc := "()I" } : Jvm.MethodName) prog_20_method_55_code (1 : Nat) (Option.some Jvm.ClassFile.FieldType.int)) ∈ lw_all := lw_g (lw_at lw_m7 172 rfl) rfl
theorem q1674 : (Jvm.Cond.methodLink "PickleHouseModel" (311 : Nat) ({ cls := "PickleHouseModel", name := "plans", desc := "()V" } : Jvm.MethodName)) ∈ lw_all := lw_g (lw_at lw_m7 173 rfl) rfl
theorem q1675 : (Jvm.Cond.privateMethod ({ cls := "PickleHouseModel", name := "plans", desc := "()V" } : Jvm.MethodName)) ∈ lw_tbl := lw_at lw_m7 174 rfl
theorem q1676 : (Jvm.Cond.instanceMethod ({ cls := "PickleHouseModel", name := "plans", desc := "()V" } : Jvm.MethodName)) ∈ lw_all := lw_g (lw_at lw_m7 175 rfl) rfl
theorem q1677 : (Jvm.Cond.code ({ cls := "PickleHouseModel", name := "plans", desc := "()V" } : Jvm.MethodName) prog_20_method_54_code (3 : Nat) (Option.none : Option Jvm.ClassFile.FieldType)) ∈ lw_all := lw_g (lw_at lw_m7 176 rfl) rfl
theorem q1678 : (Jvm.Cond.methodLink "PickleHouseModel" (307 : Nat) ({ cls := "PickleHouseModel", name := "tries", desc := "(IIII)V" } : Jvm.MethodName)) ∈ lw_all := lw_g (lw_at lw_m7 177 rfl) rfl
theorem q1679 : (Jvm.Cond.privateMethod ({ cls := "PickleHouseModel", name := "tries", desc := "(IIII)V" } : Jvm.MethodName)) ∈ lw_tbl := lw_at lw_m7 178 rfl
theorem q1680 : (Jvm.Cond.instanceMethod ({ cls := "PickleHouseModel", name := "tries", desc := "(IIII)V" } : Jvm.MethodName)) ∈ lw_all := lw_g (lw_at lw_m7 179 rfl) rfl
theorem q1681 : (Jvm.Cond.code ({ cls := "PickleHouseModel", name := "tries", desc := "(IIII)V" } : Jvm.MethodName) prog_20_method_53_code (6 : Nat) (Option.none : Option Jvm.ClassFile.FieldType)) ∈ lw_all := lw_g (lw_at lw_m7 180 rfl) rfl
theorem q1683 : (Jvm.Cond.instanceMethod ({ cls := "PickleHouseModel", name := "planned", desc := "(I)I" } : Jvm.MethodName)) ∈ lw_all := lw_g (lw_at lw_m7 182 rfl) rfl
theorem q1684 : (Jvm.Cond.selects "PickleHouseModel" ({ cls := "PickleHouseModel", name := "planned", desc := "(I)I" } : Jvm.MethodName) ({ cls := "PickleHouseModel", name := "planned", desc := "(I)I" } : Jvm.MethodName)) ∈ lw_all := lw_g (lw_at lw_m7 183 rfl) rfl
theorem q1685 : (Jvm.Cond.code ({ cls := "PickleHouseModel", name := "planned", desc := "(I)I" } : Jvm.MethodName) prog_20_method_56_code (2 : Nat) (Option.some Jvm.ClassFile.FieldType.int)) ∈ lw_all := lw_g (lw_at lw_m7 184 rfl) rfl
theorem q1687 : (Jvm.Cond.instanceMethod ({ cls := "PickleHouseModel", name := "crockOf", desc := "(II)I" } : Jvm.MethodName)) ∈ lw_all := lw_g (lw_at lw_m7 186 rfl) rfl
theorem q1688 : (Jvm.Cond.selects "PickleHouseModel" ({ cls := "PickleHouseModel", name := "crockOf", desc := "(II)I" } : Jvm.MethodName) ({ cls := "PickleHouseModel", name := "crockOf", desc := "(II)I" } : Jvm.MethodName)) ∈ lw_all := lw_g (lw_at lw_m7 187 rfl) rfl
theorem q1689 : (Jvm.Cond.code ({ cls := "PickleHouseModel", name := "crockOf", desc := "(II)I" } : Jvm.MethodName) prog_20_method_57_code (3 : Nat) (Option.some Jvm.ClassFile.FieldType.int)) ∈ lw_all := lw_g (lw_at lw_m7 188 rfl) rfl
theorem q1691 : (Jvm.Cond.instanceMethod ({ cls := "PickleHouseModel", name := "count", desc := "(I)I" } : Jvm.MethodName)) ∈ lw_all := lw_g (lw_at lw_m7 190 rfl) rfl
theorem q1692 : (Jvm.Cond.selects "PickleHouseModel" ({ cls := "PickleHouseModel", name := "count", desc := "(I)I" } : Jvm.MethodName) ({ cls := "PickleHouseModel", name := "count", desc := "(I)I" } : Jvm.MethodName)) ∈ lw_all := lw_g (lw_at lw_m7 191 rfl) rfl
theorem q1693 : (Jvm.Cond.code ({ cls := "PickleHouseModel", name := "count", desc := "(I)I" } : Jvm.MethodName) prog_20_method_58_code (4 : Nat) (Option.some Jvm.ClassFile.FieldType.int)) ∈ lw_all := lw_g (lw_at lw_m7 192 rfl) rfl
theorem q1717 : (Jvm.Cond.castable "PickleHouseModel" "java/lang/Object") ∈ lw_tbl := lw_at lw_m7 216 rfl
theorem in_X2 : ∀ w ∈ wsX20, w ∈ lw_all := lw_in wsX20 [1346, 1348, 1350, 1352, 1354, 1356, 1358, 1360, 1362, 1364, 1366, 1368, 1370, 1372, 1374, 1376, 1378, 1380, 1382, 1384, 1386, 1388, 1390, 1392, 1394, 1396, 1398, 1400, 1402, 1404, 1406, 1408, 1410, 1412, 1414, 1416, 1418, 1420, 1422, 1424, 1426, 1428, 1430, 1432, 1434, 1436, 1438, 1440, 1442, 1444, 1446, 1448, 1450, 1452] (by decide +kernel) (by decide +kernel)
theorem q72 : (Jvm.Cond.initialized "PickleHouse$Holder") ∈ lw_all := lw_g (lw_at lw_m1 11 rfl) rfl
theorem q314 : (Jvm.Cond.instanceMethod ({ cls := "PickleHouse$Holder", name := "<init>", desc := "()V" } : Jvm.MethodName)) ∈ lw_all := lw_g (lw_at lw_m2 13 rfl) rfl
theorem q315 : (Jvm.Cond.code ({ cls := "PickleHouse$Holder", name := "<init>", desc := "()V" } : Jvm.MethodName) prog_7_method_1_code (1 : Nat) (Option.none : Option Jvm.ClassFile.FieldType)) ∈ lw_all := lw_g (lw_at lw_m2 14 rfl) rfl
theorem q316 : (Jvm.Cond.methodLink "PickleHouse$Holder" (3 : Nat) ({ cls := "java/lang/Object", name := "<init>", desc := "()V" } : Jvm.MethodName)) ∈ lw_all := lw_g (lw_at lw_m2 15 rfl) rfl
theorem q337 : (Jvm.Cond.fieldLink "PickleHouse$Holder" (9 : Nat) "PickleHouse$Holder" "grams" "[I") ∈ lw_all := lw_g (lw_at lw_m2 36 rfl) rfl
theorem q363 : (Jvm.Cond.soleField "PickleHouse$Holder" "grams") ∈ lw_all := lw_g (lw_at lw_m2 62 rfl) rfl
theorem q442 : (Jvm.Cond.declares ({ cls := "PickleHouse$Holder", name := "all", desc := "()I" } : Jvm.MethodName)) ∈ lw_tbl := lw_at lw_m2 141 rfl
theorem q444 : (Jvm.Cond.instanceMethod ({ cls := "PickleHouse$Holder", name := "all", desc := "()I" } : Jvm.MethodName)) ∈ lw_all := lw_g (lw_at lw_m2 143 rfl) rfl
theorem q445 : (Jvm.Cond.code ({ cls := "PickleHouse$Holder", name := "all", desc := "()I" } : Jvm.MethodName) prog_7_method_2_code (6 : Nat) (Option.some Jvm.ClassFile.FieldType.int)) ∈ lw_all := lw_g (lw_at lw_m2 144 rfl) rfl
theorem q1153 : (Jvm.Cond.instanceMethod ({ cls := "PickleHouse$Holder", name := "takesAll", desc := "(LPickleHouse$Holder;)V" } : Jvm.MethodName)) ∈ lw_all := lw_g (lw_at lw_m5 132 rfl) rfl
theorem q1154 : (Jvm.Cond.code ({ cls := "PickleHouse$Holder", name := "takesAll", desc := "(LPickleHouse$Holder;)V" } : Jvm.MethodName) prog_7_method_4_code (3 : Nat) (Option.none : Option Jvm.ClassFile.FieldType)) ∈ lw_all := lw_g (lw_at lw_m5 133 rfl) rfl
theorem q1173 : (Jvm.Cond.declares ({ cls := "PickleHouse$Holder", name := "gives", desc := "(ILPickleHouse$Holder;)V" } : Jvm.MethodName)) ∈ lw_tbl := lw_at lw_m5 152 rfl
theorem q1175 : (Jvm.Cond.instanceMethod ({ cls := "PickleHouse$Holder", name := "gives", desc := "(ILPickleHouse$Holder;)V" } : Jvm.MethodName)) ∈ lw_all := lw_g (lw_at lw_m5 154 rfl) rfl
theorem q1176 : (Jvm.Cond.code ({ cls := "PickleHouse$Holder", name := "gives", desc := "(ILPickleHouse$Holder;)V" } : Jvm.MethodName) prog_7_method_3_code (10 : Nat) (Option.none : Option Jvm.ClassFile.FieldType)) ∈ lw_all := lw_g (lw_at lw_m5 155 rfl) rfl
theorem q1177 : (Jvm.Cond.methodLink "PickleHouse$Holder" (15 : Nat) ({ cls := "PickleHouse$Holder", name := "all", desc := "()I" } : Jvm.MethodName)) ∈ lw_all := lw_g (lw_at lw_m5 156 rfl) rfl
theorem q1705 : (Jvm.Cond.sameMethod "PickleHouse$Holder" "PickleHouse$Holder" "takesAll" "(LPickleHouse$Holder;)V") ∈ lw_all := lw_g (lw_at lw_m7 204 rfl) rfl
theorem q1706 : (Jvm.Cond.sameMethod "PickleHouse$Holder" "PickleHouse$Holder" "all" "()I") ∈ lw_all := lw_g (lw_at lw_m7 205 rfl) rfl
theorem q73 : (Jvm.Cond.initialized "PickleHouse$Crock") ∈ lw_all := lw_g (lw_at lw_m1 12 rfl) rfl
theorem q306 : (Jvm.Cond.instanceMethod ({ cls := "PickleHouse$Crock", name := "isThere", desc := "()Z" } : Jvm.MethodName)) ∈ lw_all := lw_g (lw_at lw_m2 5 rfl) rfl
theorem q307 : (Jvm.Cond.selects "PickleHouse$Crock" ({ cls := "PickleHouse$Crock", name := "isThere", desc := "()Z" } : Jvm.MethodName) ({ cls := "PickleHouse$Crock", name := "isThere", desc := "()Z" } : Jvm.MethodName)) ∈ lw_all := lw_g (lw_at lw_m2 6 rfl) rfl
theorem q308 : (Jvm.Cond.code ({ cls := "PickleHouse$Crock", name := "isThere", desc := "()Z" } : Jvm.MethodName) prog_6_method_2_code (1 : Nat) (Option.some Jvm.ClassFile.FieldType.boolean)) ∈ lw_all := lw_g (lw_at lw_m2 7 rfl) rfl
theorem q309 : (Jvm.Cond.instantiable "PickleHouse$Crock" (11 : Nat)) ∈ lw_all := lw_g (lw_at lw_m2 8 rfl) rfl
theorem q311 : (Jvm.Cond.instanceMethod ({ cls := "PickleHouse$Crock", name := "<init>", desc := "(IIII)V" } : Jvm.MethodName)) ∈ lw_all := lw_g (lw_at lw_m2 10 rfl) rfl
theorem q312 : (Jvm.Cond.code ({ cls := "PickleHouse$Crock", name := "<init>", desc := "(IIII)V" } : Jvm.MethodName) prog_6_method_1_code (5 : Nat) (Option.none : Option Jvm.ClassFile.FieldType)) ∈ lw_all := lw_g (lw_at lw_m2 11 rfl) rfl
theorem q313 : (Jvm.Cond.methodLinkNest "PickleHouse$Crock" (3 : Nat) ({ cls := "PickleHouse$Holder", name := "<init>", desc := "()V" } : Jvm.MethodName) "PickleHouse") ∈ lw_tbl := lw_at lw_m2 12 rfl
theorem q317 : (Jvm.Cond.fieldLink "PickleHouse$Crock" (19 : Nat) "PickleHouse$Crock" "number" "I") ∈ lw_all := lw_g (lw_at lw_m2 16 rfl) rfl
theorem q318 : (Jvm.Cond.fieldLink "PickleHouse$Crock" (9 : Nat) "PickleHouse$Crock" "rates" "[B") ∈ lw_all := lw_g (lw_at lw_m2 17 rfl) rfl
theorem q320 : (Jvm.Cond.fieldLink "PickleHouse$Crock" (22 : Nat) "PickleHouse$Crock" "place" "I") ∈ lw_all := lw_g (lw_at lw_m2 19 rfl) rfl
theorem q323 : (Jvm.Cond.fieldLink "PickleHouse$Crock" (25 : Nat) "PickleHouse$Crock" "salt" "I") ∈ lw_all := lw_g (lw_at lw_m2 22 rfl) rfl
theorem q328 : (Jvm.Cond.fieldLink "PickleHouse$Crock" (28 : Nat) "PickleHouse$Crock" "born" "I") ∈ lw_all := lw_g (lw_at lw_m2 27 rfl) rfl
theorem q332 : (Jvm.Cond.fieldLink "PickleHouse$Crock" (31 : Nat) "PickleHouse$Crock" "state" "I") ∈ lw_all := lw_g (lw_at lw_m2 31 rfl) rfl
theorem q335 : (Jvm.Cond.fieldLink "PickleHouse$Crock" (15 : Nat) "PickleHouse$Crock" "latest" "I") ∈ lw_all := lw_g (lw_at lw_m2 34 rfl) rfl
theorem q339 : (Jvm.Cond.sameField "PickleHouse$Crock" "PickleHouse$Holder" "grams" "[I") ∈ lw_all := lw_g (lw_at lw_m2 38 rfl) rfl
theorem q342 : (Jvm.Cond.laysFinal "PickleHouse$Crock" "PickleHouse$Crock" "number" "I") ∈ lw_all := lw_g (lw_at lw_m2 41 rfl) rfl
theorem q343 : (Jvm.Cond.soleField "PickleHouse$Crock" "number") ∈ lw_all := lw_g (lw_at lw_m2 42 rfl) rfl
theorem q344 : (Jvm.Cond.laysFinal "PickleHouse$Crock" "PickleHouse$Crock" "rates" "[B") ∈ lw_all := lw_g (lw_at lw_m2 43 rfl) rfl
theorem q345 : (Jvm.Cond.soleField "PickleHouse$Crock" "rates") ∈ lw_all := lw_g (lw_at lw_m2 44 rfl) rfl
theorem q346 : (Jvm.Cond.lays "PickleHouse$Crock" "PickleHouse$Crock" "place" "I") ∈ lw_all := lw_g (lw_at lw_m2 45 rfl) rfl
theorem q347 : (Jvm.Cond.soleField "PickleHouse$Crock" "place") ∈ lw_all := lw_g (lw_at lw_m2 46 rfl) rfl
theorem q348 : (Jvm.Cond.lays "PickleHouse$Crock" "PickleHouse$Crock" "salt" "I") ∈ lw_all := lw_g (lw_at lw_m2 47 rfl) rfl
theorem q349 : (Jvm.Cond.soleField "PickleHouse$Crock" "salt") ∈ lw_all := lw_g (lw_at lw_m2 48 rfl) rfl
theorem q350 : (Jvm.Cond.lays "PickleHouse$Crock" "PickleHouse$Crock" "gas" "I") ∈ lw_all := lw_g (lw_at lw_m2 49 rfl) rfl
theorem q351 : (Jvm.Cond.soleField "PickleHouse$Crock" "gas") ∈ lw_all := lw_g (lw_at lw_m2 50 rfl) rfl
theorem q352 : (Jvm.Cond.lays "PickleHouse$Crock" "PickleHouse$Crock" "born" "I") ∈ lw_all := lw_g (lw_at lw_m2 51 rfl) rfl
theorem q353 : (Jvm.Cond.soleField "PickleHouse$Crock" "born") ∈ lw_all := lw_g (lw_at lw_m2 52 rfl) rfl
theorem q354 : (Jvm.Cond.lays "PickleHouse$Crock" "PickleHouse$Crock" "low" "I") ∈ lw_all := lw_g (lw_at lw_m2 53 rfl) rfl
theorem q355 : (Jvm.Cond.soleField "PickleHouse$Crock" "low") ∈ lw_all := lw_g (lw_at lw_m2 54 rfl) rfl
theorem q356 : (Jvm.Cond.lays "PickleHouse$Crock" "PickleHouse$Crock" "high" "I") ∈ lw_all := lw_g (lw_at lw_m2 55 rfl) rfl
theorem q357 : (Jvm.Cond.soleField "PickleHouse$Crock" "high") ∈ lw_all := lw_g (lw_at lw_m2 56 rfl) rfl
theorem q358 : (Jvm.Cond.lays "PickleHouse$Crock" "PickleHouse$Crock" "state" "I") ∈ lw_all := lw_g (lw_at lw_m2 57 rfl) rfl
theorem q359 : (Jvm.Cond.soleField "PickleHouse$Crock" "state") ∈ lw_all := lw_g (lw_at lw_m2 58 rfl) rfl
theorem q360 : (Jvm.Cond.lays "PickleHouse$Crock" "PickleHouse$Crock" "latest" "I") ∈ lw_all := lw_g (lw_at lw_m2 59 rfl) rfl
theorem q361 : (Jvm.Cond.soleField "PickleHouse$Crock" "latest") ∈ lw_all := lw_g (lw_at lw_m2 60 rfl) rfl
theorem q362 : (Jvm.Cond.laysFinal "PickleHouse$Crock" "PickleHouse$Holder" "grams" "[I") ∈ lw_all := lw_g (lw_at lw_m2 61 rfl) rfl
theorem q364 : (Jvm.Cond.superclass "PickleHouse$Crock" "PickleHouse$Holder") ∈ lw_all := lw_g (lw_at lw_m2 63 rfl) rfl
theorem q400 : (Jvm.Cond.selects "PickleHouse$Crock" ({ cls := "java/lang/Object", name := "getClass", desc := "()Ljava/lang/Class;" } : Jvm.MethodName) ({ cls := "java/lang/Object", name := "getClass", desc := "()Ljava/lang/Class;" } : Jvm.MethodName)) ∈ lw_all := lw_g (lw_at lw_m2 99 rfl) rfl
theorem q441 : (Jvm.Cond.sameMethod "PickleHouse$Crock" "PickleHouse$Holder" "all" "()I") ∈ lw_all := lw_g (lw_at lw_m2 140 rfl) rfl
theorem q443 : (Jvm.Cond.selects "PickleHouse$Crock" ({ cls := "PickleHouse$Crock", name := "all", desc := "()I" } : Jvm.MethodName) ({ cls := "PickleHouse$Holder", name := "all", desc := "()I" } : Jvm.MethodName)) ∈ lw_all := lw_g (lw_at lw_m2 142 rfl) rfl
theorem q506 : (Jvm.Cond.instanceMethod ({ cls := "PickleHouse$Crock", name := "isCold", desc := "()Z" } : Jvm.MethodName)) ∈ lw_all := lw_g (lw_at lw_m2 205 rfl) rfl
theorem q507 : (Jvm.Cond.selects "PickleHouse$Crock" ({ cls := "PickleHouse$Crock", name := "isCold", desc := "()Z" } : Jvm.MethodName) ({ cls := "PickleHouse$Crock", name := "isCold", desc := "()Z" } : Jvm.MethodName)) ∈ lw_all := lw_g (lw_at lw_m2 206 rfl) rfl
theorem q508 : (Jvm.Cond.code ({ cls := "PickleHouse$Crock", name := "isCold", desc := "()Z" } : Jvm.MethodName) prog_6_method_3_code (1 : Nat) (Option.some Jvm.ClassFile.FieldType.boolean)) ∈ lw_all := lw_g (lw_at lw_m2 207 rfl) rfl
theorem q509 : (Jvm.Cond.methodLink "PickleHouse$Crock" (34 : Nat) ({ cls := "PickleHouse$Crock", name := "isThere", desc := "()Z" } : Jvm.MethodName)) ∈ lw_all := lw_g (lw_at lw_m2 208 rfl) rfl
theorem q552 : (Jvm.Cond.instanceMethod ({ cls := "PickleHouse$Crock", name := "goes", desc := "(I)V" } : Jvm.MethodName)) ∈ lw_all := lw_g (lw_at lw_m3 11 rfl) rfl
theorem q553 : (Jvm.Cond.selects "PickleHouse$Crock" ({ cls := "PickleHouse$Crock", name := "goes", desc := "(I)V" } : Jvm.MethodName) ({ cls := "PickleHouse$Crock", name := "goes", desc := "(I)V" } : Jvm.MethodName)) ∈ lw_all := lw_g (lw_at lw_m3 12 rfl) rfl
theorem q554 : (Jvm.Cond.code ({ cls := "PickleHouse$Crock", name := "goes", desc := "(I)V" } : Jvm.MethodName) prog_6_method_4_code (2 : Nat) (Option.none : Option Jvm.ClassFile.FieldType)) ∈ lw_all := lw_g (lw_at lw_m3 13 rfl) rfl
theorem q1149 : (Jvm.Cond.instanceMethod ({ cls := "PickleHouse$Crock", name := "takesAll", desc := "(LPickleHouse$Holder;)V" } : Jvm.MethodName)) ∈ lw_all := lw_g (lw_at lw_m5 128 rfl) rfl
theorem q1150 : (Jvm.Cond.selects "PickleHouse$Crock" ({ cls := "PickleHouse$Crock", name := "takesAll", desc := "(LPickleHouse$Holder;)V" } : Jvm.MethodName) ({ cls := "PickleHouse$Crock", name := "takesAll", desc := "(LPickleHouse$Holder;)V" } : Jvm.MethodName)) ∈ lw_all := lw_g (lw_at lw_m5 129 rfl) rfl
theorem q1151 : (Jvm.Cond.code ({ cls := "PickleHouse$Crock", name := "takesAll", desc := "(LPickleHouse$Holder;)V" } : Jvm.MethodName) prog_6_method_5_code (2 : Nat) (Option.none : Option Jvm.ClassFile.FieldType)) ∈ lw_all := lw_g (lw_at lw_m5 130 rfl) rfl
theorem q1152 : (Jvm.Cond.methodLink "PickleHouse$Crock" (38 : Nat) ({ cls := "PickleHouse$Holder", name := "takesAll", desc := "(LPickleHouse$Holder;)V" } : Jvm.MethodName)) ∈ lw_all := lw_g (lw_at lw_m5 131 rfl) rfl
theorem q1172 : (Jvm.Cond.sameMethod "PickleHouse$Crock" "PickleHouse$Holder" "gives" "(ILPickleHouse$Holder;)V") ∈ lw_all := lw_g (lw_at lw_m5 151 rfl) rfl
theorem q1174 : (Jvm.Cond.selects "PickleHouse$Crock" ({ cls := "PickleHouse$Crock", name := "gives", desc := "(ILPickleHouse$Holder;)V" } : Jvm.MethodName) ({ cls := "PickleHouse$Holder", name := "gives", desc := "(ILPickleHouse$Holder;)V" } : Jvm.MethodName)) ∈ lw_all := lw_g (lw_at lw_m5 153 rfl) rfl
theorem q1239 : (Jvm.Cond.selects "PickleHouse$Crock" ({ cls := "java/lang/Object", name := "equals", desc := "(Ljava/lang/Object;)Z" } : Jvm.MethodName) ({ cls := "java/lang/Object", name := "equals", desc := "(Ljava/lang/Object;)Z" } : Jvm.MethodName)) ∈ lw_all := lw_g (lw_at lw_m5 218 rfl) rfl
theorem q1707 : (Jvm.Cond.selects "PickleHouse$Crock" ({ cls := "PickleHouse$Holder", name := "all", desc := "()I" } : Jvm.MethodName) ({ cls := "PickleHouse$Holder", name := "all", desc := "()I" } : Jvm.MethodName)) ∈ lw_all := lw_g (lw_at lw_m7 206 rfl) rfl
theorem q1718 : (Jvm.Cond.castable "PickleHouse$Crock" "java/lang/Object") ∈ lw_tbl := lw_at lw_m7 217 rfl
theorem in_X4 : ∀ w ∈ wsX40, w ∈ lw_all := lw_in wsX40 [362, 342, 344, 346, 348, 350, 352, 354, 356, 358, 360] (by decide +kernel) (by decide +kernel)
theorem q78 : (Jvm.Cond.initialized "PickleHouse$Test") ∈ lw_all := lw_g (lw_at lw_m1 17 rfl) rfl
theorem q407 : (Jvm.Cond.selects "PickleHouse$Test" ({ cls := "java/lang/Object", name := "getClass", desc := "()Ljava/lang/Class;" } : Jvm.MethodName) ({ cls := "java/lang/Object", name := "getClass", desc := "()Ljava/lang/Class;" } : Jvm.MethodName)) ∈ lw_all := lw_g (lw_at lw_m2 106 rfl) rfl
theorem q569 : (Jvm.Cond.instantiable "PickleHouse$Test" (3 : Nat)) ∈ lw_all := lw_g (lw_at lw_m3 28 rfl) rfl
theorem q571 : (Jvm.Cond.instanceMethod ({ cls := "PickleHouse$Test", name := "<init>", desc := "(LPickleHouse$Crock;II)V" } : Jvm.MethodName)) ∈ lw_all := lw_g (lw_at lw_m3 30 rfl) rfl
theorem q572 : (Jvm.Cond.code ({ cls := "PickleHouse$Test", name := "<init>", desc := "(LPickleHouse$Crock;II)V" } : Jvm.MethodName) prog_15_method_1_code (4 : Nat) (Option.none : Option Jvm.ClassFile.FieldType)) ∈ lw_all := lw_g (lw_at lw_m3 31 rfl) rfl
theorem q573 : (Jvm.Cond.methodLink "PickleHouse$Test" (1 : Nat) ({ cls := "java/lang/Object", name := "<init>", desc := "()V" } : Jvm.MethodName)) ∈ lw_all := lw_g (lw_at lw_m3 32 rfl) rfl
theorem q574 : (Jvm.Cond.fieldLink "PickleHouse$Test" (7 : Nat) "PickleHouse$Test" "of" "LPickleHouse$Crock;") ∈ lw_all := lw_g (lw_at lw_m3 33 rfl) rfl
theorem q576 : (Jvm.Cond.fieldLink "PickleHouse$Test" (13 : Nat) "PickleHouse$Test" "hour" "I") ∈ lw_all := lw_g (lw_at lw_m3 35 rfl) rfl
theorem q578 : (Jvm.Cond.fieldLink "PickleHouse$Test" (17 : Nat) "PickleHouse$Test" "v" "I") ∈ lw_all := lw_g (lw_at lw_m3 37 rfl) rfl
theorem q580 : (Jvm.Cond.laysFinal "PickleHouse$Test" "PickleHouse$Test" "of" "LPickleHouse$Crock;") ∈ lw_all := lw_g (lw_at lw_m3 39 rfl) rfl
theorem q581 : (Jvm.Cond.soleField "PickleHouse$Test" "of") ∈ lw_all := lw_g (lw_at lw_m3 40 rfl) rfl
theorem q582 : (Jvm.Cond.laysFinal "PickleHouse$Test" "PickleHouse$Test" "hour" "I") ∈ lw_all := lw_g (lw_at lw_m3 41 rfl) rfl
theorem q583 : (Jvm.Cond.soleField "PickleHouse$Test" "hour") ∈ lw_all := lw_g (lw_at lw_m3 42 rfl) rfl
theorem q584 : (Jvm.Cond.laysFinal "PickleHouse$Test" "PickleHouse$Test" "v" "I") ∈ lw_all := lw_g (lw_at lw_m3 43 rfl) rfl
theorem q585 : (Jvm.Cond.soleField "PickleHouse$Test" "v") ∈ lw_all := lw_g (lw_at lw_m3 44 rfl) rfl
theorem q586 : (Jvm.Cond.superclass "PickleHouse$Test" "java/lang/Object") ∈ lw_all := lw_g (lw_at lw_m3 45 rfl) rfl
theorem q1246 : (Jvm.Cond.selects "PickleHouse$Test" ({ cls := "java/lang/Object", name := "equals", desc := "(Ljava/lang/Object;)Z" } : Jvm.MethodName) ({ cls := "java/lang/Object", name := "equals", desc := "(Ljava/lang/Object;)Z" } : Jvm.MethodName)) ∈ lw_all := lw_g (lw_at lw_m5 225 rfl) rfl
theorem q1719 : (Jvm.Cond.castable "PickleHouse$Test" "java/lang/Object") ∈ lw_tbl := lw_at lw_m7 218 rfl
theorem in_X5 : ∀ w ∈ wsX50, w ∈ lw_all := lw_in wsX50 [580, 582, 584] (by decide +kernel) (by decide +kernel)
theorem q83 : (Jvm.Cond.initialized "PickleHouse$Recipe") ∈ lw_all := lw_g (lw_at lw_m1 22 rfl) rfl
theorem q405 : (Jvm.Cond.selects "PickleHouse$Recipe" ({ cls := "java/lang/Object", name := "getClass", desc := "()Ljava/lang/Class;" } : Jvm.MethodName) ({ cls := "java/lang/Object", name := "getClass", desc := "()Ljava/lang/Class;" } : Jvm.MethodName)) ∈ lw_all := lw_g (lw_at lw_m2 104 rfl) rfl
theorem q612 : (Jvm.Cond.instantiable "PickleHouse$Recipe" (2 : Nat)) ∈ lw_all := lw_g (lw_at lw_m3 71 rfl) rfl
theorem q1124 : (Jvm.Cond.instanceMethod ({ cls := "PickleHouse$Recipe", name := "<init>", desc := "(ILjava/util/ArrayList;)V" } : Jvm.MethodName)) ∈ lw_all := lw_g (lw_at lw_m5 103 rfl) rfl
theorem q1125 : (Jvm.Cond.code ({ cls := "PickleHouse$Recipe", name := "<init>", desc := "(ILjava/util/ArrayList;)V" } : Jvm.MethodName) prog_13_method_1_code (3 : Nat) (Option.none : Option Jvm.ClassFile.FieldType)) ∈ lw_all := lw_g (lw_at lw_m5 104 rfl) rfl
theorem q1126 : (Jvm.Cond.methodLink "PickleHouse$Recipe" (1 : Nat) ({ cls := "java/lang/Object", name := "<init>", desc := "()V" } : Jvm.MethodName)) ∈ lw_all := lw_g (lw_at lw_m5 105 rfl) rfl
theorem q1127 : (Jvm.Cond.fieldLink "PickleHouse$Recipe" (7 : Nat) "PickleHouse$Recipe" "day" "I") ∈ lw_all := lw_g (lw_at lw_m5 106 rfl) rfl
theorem q1129 : (Jvm.Cond.fieldLink "PickleHouse$Recipe" (13 : Nat) "PickleHouse$Recipe" "rules" "Ljava/util/ArrayList;") ∈ lw_all := lw_g (lw_at lw_m5 108 rfl) rfl
theorem q1131 : (Jvm.Cond.laysFinal "PickleHouse$Recipe" "PickleHouse$Recipe" "day" "I") ∈ lw_all := lw_g (lw_at lw_m5 110 rfl) rfl
theorem q1132 : (Jvm.Cond.soleField "PickleHouse$Recipe" "day") ∈ lw_all := lw_g (lw_at lw_m5 111 rfl) rfl
theorem q1133 : (Jvm.Cond.laysFinal "PickleHouse$Recipe" "PickleHouse$Recipe" "rules" "Ljava/util/ArrayList;") ∈ lw_all := lw_g (lw_at lw_m5 112 rfl) rfl
theorem q1134 : (Jvm.Cond.soleField "PickleHouse$Recipe" "rules") ∈ lw_all := lw_g (lw_at lw_m5 113 rfl) rfl
theorem q1135 : (Jvm.Cond.superclass "PickleHouse$Recipe" "java/lang/Object") ∈ lw_all := lw_g (lw_at lw_m5 114 rfl) rfl
theorem q1244 : (Jvm.Cond.selects "PickleHouse$Recipe" ({ cls := "java/lang/Object", name := "equals", desc := "(Ljava/lang/Object;)Z" } : Jvm.MethodName) ({ cls := "java/lang/Object", name := "equals", desc := "(Ljava/lang/Object;)Z" } : Jvm.MethodName)) ∈ lw_all := lw_g (lw_at lw_m5 223 rfl) rfl
theorem q1721 : (Jvm.Cond.castable "PickleHouse$Recipe" "java/lang/Object") ∈ lw_tbl := lw_at lw_m7 220 rfl
theorem in_X6 : ∀ w ∈ wsX60, w ∈ lw_all := lw_in wsX60 [1131, 1133] (by decide +kernel) (by decide +kernel)
theorem q84 : (Jvm.Cond.initialized "PickleHouse$Reader") ∈ lw_all := lw_g (lw_at lw_m1 23 rfl) rfl
theorem q403 : (Jvm.Cond.selects "PickleHouse$Reader" ({ cls := "java/lang/Object", name := "getClass", desc := "()Ljava/lang/Class;" } : Jvm.MethodName) ({ cls := "java/lang/Object", name := "getClass", desc := "()Ljava/lang/Class;" } : Jvm.MethodName)) ∈ lw_all := lw_g (lw_at lw_m2 102 rfl) rfl
theorem q614 : (Jvm.Cond.instantiable "PickleHouse$Reader" (7 : Nat)) ∈ lw_all := lw_g (lw_at lw_m3 73 rfl) rfl
theorem q616 : (Jvm.Cond.instanceMethod ({ cls := "PickleHouse$Reader", name := "<init>", desc := "([BI)V" } : Jvm.MethodName)) ∈ lw_all := lw_g (lw_at lw_m3 75 rfl) rfl
theorem q617 : (Jvm.Cond.code ({ cls := "PickleHouse$Reader", name := "<init>", desc := "([BI)V" } : Jvm.MethodName) prog_11_method_1_code (3 : Nat) (Option.none : Option Jvm.ClassFile.FieldType)) ∈ lw_all := lw_g (lw_at lw_m3 76 rfl) rfl
theorem q618 : (Jvm.Cond.methodLink "PickleHouse$Reader" (3 : Nat) ({ cls := "java/lang/Object", name := "<init>", desc := "()V" } : Jvm.MethodName)) ∈ lw_all := lw_g (lw_at lw_m3 77 rfl) rfl
theorem q619 : (Jvm.Cond.stringRef "PickleHouse$Reader" (9 : Nat) "") ∈ lw_tbl := lw_at lw_m3 78 rfl
theorem q620 : (Jvm.Cond.methodLink "PickleHouse$Reader" (25 : Nat) ({ cls := "PickleHouse$Reader", name := "next", desc := "()V" } : Jvm.MethodName)) ∈ lw_all := lw_g (lw_at lw_m3 79 rfl) rfl
theorem q621 : (Jvm.Cond.privateMethod ({ cls := "PickleHouse$Reader", name := "next", desc := "()V" } : Jvm.MethodName)) ∈ lw_tbl := lw_at lw_m3 80 rfl
theorem q622 : (Jvm.Cond.instanceMethod ({ cls := "PickleHouse$Reader", name := "next", desc := "()V" } : Jvm.MethodName)) ∈ lw_all := lw_g (lw_at lw_m3 81 rfl) rfl
theorem q623 : (Jvm.Cond.code ({ cls := "PickleHouse$Reader", name := "next", desc := "()V" } : Jvm.MethodName) prog_11_method_3_code (3 : Nat) (Option.none : Option Jvm.ClassFile.FieldType)) ∈ lw_all := lw_g (lw_at lw_m3 82 rfl) rfl
theorem q624 : (Jvm.Cond.methodLink "PickleHouse$Reader" (31 : Nat) ({ cls := "PickleHouse$Reader", name := "see", desc := "()I" } : Jvm.MethodName)) ∈ lw_all := lw_g (lw_at lw_m3 83 rfl) rfl
theorem q625 : (Jvm.Cond.privateMethod ({ cls := "PickleHouse$Reader", name := "see", desc := "()I" } : Jvm.MethodName)) ∈ lw_tbl := lw_at lw_m3 84 rfl
theorem q626 : (Jvm.Cond.instanceMethod ({ cls := "PickleHouse$Reader", name := "see", desc := "()I" } : Jvm.MethodName)) ∈ lw_all := lw_g (lw_at lw_m3 85 rfl) rfl
theorem q627 : (Jvm.Cond.code ({ cls := "PickleHouse$Reader", name := "see", desc := "()I" } : Jvm.MethodName) prog_11_method_2_code (1 : Nat) (Option.some Jvm.ClassFile.FieldType.int)) ∈ lw_all := lw_g (lw_at lw_m3 86 rfl) rfl
theorem q628 : (Jvm.Cond.classLink "PickleHouse$Reader" (41 : Nat) "java/lang/StringBuilder") ∈ lw_all := lw_g (lw_at lw_m3 87 rfl) rfl
theorem q630 : (Jvm.Cond.methodLink "PickleHouse$Reader" (43 : Nat) ({ cls := "java/lang/StringBuilder", name := "<init>", desc := "()V" } : Jvm.MethodName)) ∈ lw_all := lw_g (lw_at lw_m3 89 rfl) rfl
theorem q658 : (Jvm.Cond.methodLink "PickleHouse$Reader" (44 : Nat) ({ cls := "java/lang/StringBuilder", name := "append", desc := "(C)Ljava/lang/StringBuilder;" } : Jvm.MethodName)) ∈ lw_all := lw_g (lw_at lw_m3 117 rfl) rfl
theorem q718 : (Jvm.Cond.methodLink "PickleHouse$Reader" (48 : Nat) ({ cls := "java/lang/StringBuilder", name := "toString", desc := "()Ljava/lang/String;" } : Jvm.MethodName)) ∈ lw_all := lw_g (lw_at lw_m3 177 rfl) rfl
theorem q777 : (Jvm.Cond.methodLink "PickleHouse$Reader" (52 : Nat) ({ cls := "java/lang/String", name := "length", desc := "()I" } : Jvm.MethodName)) ∈ lw_all := lw_g (lw_at lw_m3 236 rfl) rfl
theorem q778 : (Jvm.Cond.fieldLink "PickleHouse$Reader" (17 : Nat) "PickleHouse$Reader" "text" "[B") ∈ lw_all := lw_g (lw_at lw_m3 237 rfl) rfl
theorem q779 : (Jvm.Cond.fieldLink "PickleHouse$Reader" (21 : Nat) "PickleHouse$Reader" "size" "I") ∈ lw_all := lw_g (lw_at lw_m3 238 rfl) rfl
theorem q780 : (Jvm.Cond.fieldLink "PickleHouse$Reader" (28 : Nat) "PickleHouse$Reader" "at" "I") ∈ lw_all := lw_g (lw_at lw_m3 239 rfl) rfl
theorem q781 : (Jvm.Cond.fieldLink "PickleHouse$Reader" (35 : Nat) "PickleHouse$Reader" "place" "I") ∈ lw_all := lw_g (lw_at lw_m4 0 rfl) rfl
theorem q782 : (Jvm.Cond.fieldLink "PickleHouse$Reader" (38 : Nat) "PickleHouse$Reader" "sort" "I") ∈ lw_all := lw_g (lw_at lw_m4 1 rfl) rfl
theorem q783 : (Jvm.Cond.fieldLink "PickleHouse$Reader" (57 : Nat) "PickleHouse$Reader" "value" "I") ∈ lw_all := lw_g (lw_at lw_m4 2 rfl) rfl
theorem q784 : (Jvm.Cond.fieldLink "PickleHouse$Reader" (11 : Nat) "PickleHouse$Reader" "word" "Ljava/lang/String;") ∈ lw_all := lw_g (lw_at lw_m4 3 rfl) rfl
theorem q785 : (Jvm.Cond.laysFinal "PickleHouse$Reader" "PickleHouse$Reader" "text" "[B") ∈ lw_all := lw_g (lw_at lw_m4 4 rfl) rfl
theorem q786 : (Jvm.Cond.soleField "PickleHouse$Reader" "text") ∈ lw_all := lw_g (lw_at lw_m4 5 rfl) rfl
theorem q787 : (Jvm.Cond.laysFinal "PickleHouse$Reader" "PickleHouse$Reader" "size" "I") ∈ lw_all := lw_g (lw_at lw_m4 6 rfl) rfl
theorem q788 : (Jvm.Cond.soleField "PickleHouse$Reader" "size") ∈ lw_all := lw_g (lw_at lw_m4 7 rfl) rfl
theorem q789 : (Jvm.Cond.lays "PickleHouse$Reader" "PickleHouse$Reader" "at" "I") ∈ lw_all := lw_g (lw_at lw_m4 8 rfl) rfl
theorem q790 : (Jvm.Cond.soleField "PickleHouse$Reader" "at") ∈ lw_all := lw_g (lw_at lw_m4 9 rfl) rfl
theorem q791 : (Jvm.Cond.lays "PickleHouse$Reader" "PickleHouse$Reader" "place" "I") ∈ lw_all := lw_g (lw_at lw_m4 10 rfl) rfl
theorem q792 : (Jvm.Cond.soleField "PickleHouse$Reader" "place") ∈ lw_all := lw_g (lw_at lw_m4 11 rfl) rfl
theorem q793 : (Jvm.Cond.lays "PickleHouse$Reader" "PickleHouse$Reader" "sort" "I") ∈ lw_all := lw_g (lw_at lw_m4 12 rfl) rfl
theorem q794 : (Jvm.Cond.soleField "PickleHouse$Reader" "sort") ∈ lw_all := lw_g (lw_at lw_m4 13 rfl) rfl
theorem q795 : (Jvm.Cond.lays "PickleHouse$Reader" "PickleHouse$Reader" "value" "I") ∈ lw_all := lw_g (lw_at lw_m4 14 rfl) rfl
theorem q796 : (Jvm.Cond.soleField "PickleHouse$Reader" "value") ∈ lw_all := lw_g (lw_at lw_m4 15 rfl) rfl
theorem q797 : (Jvm.Cond.lays "PickleHouse$Reader" "PickleHouse$Reader" "word" "Ljava/lang/String;") ∈ lw_all := lw_g (lw_at lw_m4 16 rfl) rfl
theorem q798 : (Jvm.Cond.soleField "PickleHouse$Reader" "word") ∈ lw_all := lw_g (lw_at lw_m4 17 rfl) rfl
theorem q799 : (Jvm.Cond.superclass "PickleHouse$Reader" "java/lang/Object") ∈ lw_all := lw_g (lw_at lw_m4 18 rfl) rfl
theorem q801 : (Jvm.Cond.instanceMethod ({ cls := "PickleHouse$Reader", name := "rules", desc := "()Ljava/util/ArrayList;" } : Jvm.MethodName)) ∈ lw_all := lw_g (lw_at lw_m4 20 rfl) rfl
theorem q802 : (Jvm.Cond.selects "PickleHouse$Reader" ({ cls := "PickleHouse$Reader", name := "rules", desc := "()Ljava/util/ArrayList;" } : Jvm.MethodName) ({ cls := "PickleHouse$Reader", name := "rules", desc := "()Ljava/util/ArrayList;" } : Jvm.MethodName)) ∈ lw_all := lw_g (lw_at lw_m4 21 rfl) rfl
theorem q803 : (Jvm.Cond.code ({ cls := "PickleHouse$Reader", name := "rules", desc := "()Ljava/util/ArrayList;" } : Jvm.MethodName) prog_11_method_8_code (2 : Nat) (Option.some (Jvm.ClassFile.FieldType.object "java/util/ArrayList"))) ∈ lw_all := lw_g (lw_at lw_m4 22 rfl) rfl
theorem q804 : (Jvm.Cond.classLink "PickleHouse$Reader" (78 : Nat) "java/util/ArrayList") ∈ lw_all := lw_g (lw_at lw_m4 23 rfl) rfl
theorem q805 : (Jvm.Cond.methodLink "PickleHouse$Reader" (80 : Nat) ({ cls := "java/util/ArrayList", name := "<init>", desc := "(I)V" } : Jvm.MethodName)) ∈ lw_all := lw_g (lw_at lw_m4 24 rfl) rfl
theorem q810 : (Jvm.Cond.stringRef "PickleHouse$Reader" (83 : Nat) "if") ∈ lw_tbl := lw_at lw_m4 29 rfl
theorem q811 : (Jvm.Cond.methodLink "PickleHouse$Reader" (85 : Nat) ({ cls := "PickleHouse$Reader", name := "isWord", desc := "(Ljava/lang/String;)Z" } : Jvm.MethodName)) ∈ lw_all := lw_g (lw_at lw_m4 30 rfl) rfl
theorem q812 : (Jvm.Cond.privateMethod ({ cls := "PickleHouse$Reader", name := "isWord", desc := "(Ljava/lang/String;)Z" } : Jvm.MethodName)) ∈ lw_tbl := lw_at lw_m4 31 rfl
theorem q813 : (Jvm.Cond.instanceMethod ({ cls := "PickleHouse$Reader", name := "isWord", desc := "(Ljava/lang/String;)Z" } : Jvm.MethodName)) ∈ lw_all := lw_g (lw_at lw_m4 32 rfl) rfl
theorem q814 : (Jvm.Cond.code ({ cls := "PickleHouse$Reader", name := "isWord", desc := "(Ljava/lang/String;)Z" } : Jvm.MethodName) prog_11_method_4_code (2 : Nat) (Option.some Jvm.ClassFile.FieldType.boolean)) ∈ lw_all := lw_g (lw_at lw_m4 33 rfl) rfl
theorem q815 : (Jvm.Cond.methodLink "PickleHouse$Reader" (60 : Nat) ({ cls := "java/lang/String", name := "equals", desc := "(Ljava/lang/Object;)Z" } : Jvm.MethodName)) ∈ lw_all := lw_g (lw_at lw_m4 34 rfl) rfl
theorem q823 : (Jvm.Cond.stringRef "PickleHouse$Reader" (89 : Nat) " press throw ready cool warm salt ") ∈ lw_tbl := lw_at lw_m4 42 rfl
theorem q824 : (Jvm.Cond.methodLink "PickleHouse$Reader" (91 : Nat) ({ cls := "PickleHouse$Reader", name := "isOf", desc := "(Ljava/lang/String;)Z" } : Jvm.MethodName)) ∈ lw_all := lw_g (lw_at lw_m4 43 rfl) rfl
theorem q825 : (Jvm.Cond.privateMethod ({ cls := "PickleHouse$Reader", name := "isOf", desc := "(Ljava/lang/String;)Z" } : Jvm.MethodName)) ∈ lw_tbl := lw_at lw_m4 44 rfl
theorem q826 : (Jvm.Cond.instanceMethod ({ cls := "PickleHouse$Reader", name := "isOf", desc := "(Ljava/lang/String;)Z" } : Jvm.MethodName)) ∈ lw_all := lw_g (lw_at lw_m4 45 rfl) rfl
theorem q827 : (Jvm.Cond.code ({ cls := "PickleHouse$Reader", name := "isOf", desc := "(Ljava/lang/String;)Z" } : Jvm.MethodName) prog_11_method_5_code (2 : Nat) (Option.some Jvm.ClassFile.FieldType.boolean)) ∈ lw_all := lw_g (lw_at lw_m4 46 rfl) rfl
theorem q828 : (Jvm.Cond.stringRef "PickleHouse$Reader" (64 : Nat) " ") ∈ lw_tbl := lw_at lw_m4 47 rfl
theorem q829 : (Jvm.Cond.methodLink "PickleHouse$Reader" (66 : Nat) ({ cls := "java/lang/StringBuilder", name := "append", desc := "(Ljava/lang/String;)Ljava/lang/StringBuilder;" } : Jvm.MethodName)) ∈ lw_all := lw_g (lw_at lw_m4 48 rfl) rfl
theorem q868 : (Jvm.Cond.methodLink "PickleHouse$Reader" (69 : Nat) ({ cls := "java/lang/String", name := "indexOf", desc := "(Ljava/lang/String;)I" } : Jvm.MethodName)) ∈ lw_all := lw_g (lw_at lw_m4 87 rfl) rfl
theorem q890 : (Jvm.Cond.methodLink "PickleHouse$Reader" (94 : Nat) ({ cls := "PickleHouse$Reader", name := "form", desc := "()LPickleHouse$Wrong;" } : Jvm.MethodName)) ∈ lw_all := lw_g (lw_at lw_m4 109 rfl) rfl
theorem q891 : (Jvm.Cond.privateMethod ({ cls := "PickleHouse$Reader", name := "form", desc := "()LPickleHouse$Wrong;" } : Jvm.MethodName)) ∈ lw_tbl := lw_at lw_m4 110 rfl
theorem q892 : (Jvm.Cond.instanceMethod ({ cls := "PickleHouse$Reader", name := "form", desc := "()LPickleHouse$Wrong;" } : Jvm.MethodName)) ∈ lw_all := lw_g (lw_at lw_m4 111 rfl) rfl
theorem q893 : (Jvm.Cond.code ({ cls := "PickleHouse$Reader", name := "form", desc := "()LPickleHouse$Wrong;" } : Jvm.MethodName) prog_11_method_7_code (1 : Nat) (Option.some (Jvm.ClassFile.FieldType.object "PickleHouse$Wrong"))) ∈ lw_all := lw_g (lw_at lw_m4 112 rfl) rfl
theorem q894 : (Jvm.Cond.classLink "PickleHouse$Reader" (73 : Nat) "PickleHouse$Wrong") ∈ lw_all := lw_g (lw_at lw_m4 113 rfl) rfl
theorem q932 : (Jvm.Cond.methodLink "PickleHouse$Reader" (75 : Nat) ({ cls := "PickleHouse$Wrong", name := "<init>", desc := "(II)V" } : Jvm.MethodName)) ∈ lw_all := lw_g (lw_at lw_m4 151 rfl) rfl
theorem q962 : (Jvm.Cond.methodLink "PickleHouse$Reader" (98 : Nat) ({ cls := "java/util/ArrayList", name := "size", desc := "()I" } : Jvm.MethodName)) ∈ lw_all := lw_g (lw_at lw_m4 181 rfl) rfl
theorem q963 : (Jvm.Cond.methodLink "PickleHouse$Reader" (100 : Nat) ({ cls := "PickleHouse$Reader", name := "rule", desc := "()LPickleHouse$Act;" } : Jvm.MethodName)) ∈ lw_all := lw_g (lw_at lw_m4 182 rfl) rfl
theorem q964 : (Jvm.Cond.privateMethod ({ cls := "PickleHouse$Reader", name := "rule", desc := "()LPickleHouse$Act;" } : Jvm.MethodName)) ∈ lw_tbl := lw_at lw_m4 183 rfl
theorem q965 : (Jvm.Cond.instanceMethod ({ cls := "PickleHouse$Reader", name := "rule", desc := "()LPickleHouse$Act;" } : Jvm.MethodName)) ∈ lw_all := lw_g (lw_at lw_m4 184 rfl) rfl
theorem q966 : (Jvm.Cond.code ({ cls := "PickleHouse$Reader", name := "rule", desc := "()LPickleHouse$Act;" } : Jvm.MethodName) prog_11_method_9_code (4 : Nat) (Option.some (Jvm.ClassFile.FieldType.object "PickleHouse$Act"))) ∈ lw_all := lw_g (lw_at lw_m4 185 rfl) rfl
theorem q967 : (Jvm.Cond.methodLink "PickleHouse$Reader" (107 : Nat) ({ cls := "PickleHouse$Reader", name := "condition", desc := "(I)LPickleHouse$Asked;" } : Jvm.MethodName)) ∈ lw_all := lw_g (lw_at lw_m4 186 rfl) rfl
theorem q968 : (Jvm.Cond.privateMethod ({ cls := "PickleHouse$Reader", name := "condition", desc := "(I)LPickleHouse$Asked;" } : Jvm.MethodName)) ∈ lw_tbl := lw_at lw_m4 187 rfl
theorem q969 : (Jvm.Cond.instanceMethod ({ cls := "PickleHouse$Reader", name := "condition", desc := "(I)LPickleHouse$Asked;" } : Jvm.MethodName)) ∈ lw_all := lw_g (lw_at lw_m4 188 rfl) rfl
theorem q970 : (Jvm.Cond.code ({ cls := "PickleHouse$Reader", name := "condition", desc := "(I)LPickleHouse$Asked;" } : Jvm.MethodName) prog_11_method_10_code (5 : Nat) (Option.some (Jvm.ClassFile.FieldType.object "PickleHouse$Asked"))) ∈ lw_all := lw_g (lw_at lw_m4 189 rfl) rfl
theorem q971 : (Jvm.Cond.stringRef "PickleHouse$Reader" (132 : Nat) " low high gas salt hours tests cold day ") ∈ lw_tbl := lw_at lw_m4 190 rfl
theorem q972 : (Jvm.Cond.methodLink "PickleHouse$Reader" (134 : Nat) ({ cls := "java/lang/String", name := "charAt", desc := "(I)C" } : Jvm.MethodName)) ∈ lw_all := lw_g (lw_at lw_m4 191 rfl) rfl
theorem q973 : (Jvm.Cond.methodLink "PickleHouse$Reader" (113 : Nat) ({ cls := "PickleHouse$Reader", name := "is", desc := "(I)Z" } : Jvm.MethodName)) ∈ lw_all := lw_g (lw_at lw_m4 192 rfl) rfl
theorem q974 : (Jvm.Cond.privateMethod ({ cls := "PickleHouse$Reader", name := "is", desc := "(I)Z" } : Jvm.MethodName)) ∈ lw_tbl := lw_at lw_m4 193 rfl
theorem q975 : (Jvm.Cond.instanceMethod ({ cls := "PickleHouse$Reader", name := "is", desc := "(I)Z" } : Jvm.MethodName)) ∈ lw_all := lw_g (lw_at lw_m4 194 rfl) rfl
theorem q976 : (Jvm.Cond.code ({ cls := "PickleHouse$Reader", name := "is", desc := "(I)Z" } : Jvm.MethodName) prog_11_method_6_code (2 : Nat) (Option.some Jvm.ClassFile.FieldType.boolean)) ∈ lw_all := lw_g (lw_at lw_m4 195 rfl) rfl
theorem q977 : (Jvm.Cond.classLink "PickleHouse$Reader" (138 : Nat) "PickleHouse$Compared") ∈ lw_all := lw_g (lw_at lw_m4 196 rfl) rfl
theorem q979 : (Jvm.Cond.methodLink "PickleHouse$Reader" (140 : Nat) ({ cls := "PickleHouse$Reader", name := "number", desc := "()I" } : Jvm.MethodName)) ∈ lw_all := lw_g (lw_at lw_m4 198 rfl) rfl
theorem q980 : (Jvm.Cond.privateMethod ({ cls := "PickleHouse$Reader", name := "number", desc := "()I" } : Jvm.MethodName)) ∈ lw_tbl := lw_at lw_m4 199 rfl
theorem q981 : (Jvm.Cond.instanceMethod ({ cls := "PickleHouse$Reader", name := "number", desc := "()I" } : Jvm.MethodName)) ∈ lw_all := lw_g (lw_at lw_m4 200 rfl) rfl
theorem q982 : (Jvm.Cond.code ({ cls := "PickleHouse$Reader", name := "number", desc := "()I" } : Jvm.MethodName) prog_11_method_11_code (2 : Nat) (Option.some Jvm.ClassFile.FieldType.int)) ∈ lw_all := lw_g (lw_at lw_m4 201 rfl) rfl
theorem q983 : (Jvm.Cond.methodLinkNest "PickleHouse$Reader" (143 : Nat) ({ cls := "PickleHouse$Compared", name := "<init>", desc := "(III)V" } : Jvm.MethodName) "PickleHouse") ∈ lw_tbl := lw_at lw_m4 202 rfl
theorem q1000 : (Jvm.Cond.methodLink "PickleHouse$Reader" (104 : Nat) ({ cls := "java/util/ArrayList", name := "add", desc := "(Ljava/lang/Object;)Z" } : Jvm.MethodName)) ∈ lw_all := lw_g (lw_at lw_m4 219 rfl) rfl
theorem q1001 : (Jvm.Cond.stringRef "PickleHouse$Reader" (111 : Nat) "and") ∈ lw_tbl := lw_at lw_m4 220 rfl
theorem q1002 : (Jvm.Cond.methodLink "PickleHouse$Reader" (117 : Nat) ({ cls := "PickleHouse$Reader", name := "act", desc := "()LPickleHouse$Act;" } : Jvm.MethodName)) ∈ lw_all := lw_g (lw_at lw_m4 221 rfl) rfl
theorem q1003 : (Jvm.Cond.privateMethod ({ cls := "PickleHouse$Reader", name := "act", desc := "()LPickleHouse$Act;" } : Jvm.MethodName)) ∈ lw_tbl := lw_at lw_m4 222 rfl
theorem q1004 : (Jvm.Cond.instanceMethod ({ cls := "PickleHouse$Reader", name := "act", desc := "()LPickleHouse$Act;" } : Jvm.MethodName)) ∈ lw_all := lw_g (lw_at lw_m4 223 rfl) rfl
theorem q1005 : (Jvm.Cond.code ({ cls := "PickleHouse$Reader", name := "act", desc := "()LPickleHouse$Act;" } : Jvm.MethodName) prog_11_method_12_code (4 : Nat) (Option.some (Jvm.ClassFile.FieldType.object "PickleHouse$Act"))) ∈ lw_all := lw_g (lw_at lw_m4 224 rfl) rfl
theorem q1006 : (Jvm.Cond.methodLink "PickleHouse$Reader" (146 : Nat) ({ cls := "java/lang/String", name := "hashCode", desc := "()I" } : Jvm.MethodName)) ∈ lw_all := lw_g (lw_at lw_m4 225 rfl) rfl
theorem q1055 : (Jvm.Cond.stringRef "PickleHouse$Reader" (149 : Nat) "press") ∈ lw_tbl := lw_at lw_m5 34 rfl
theorem q1056 : (Jvm.Cond.stringRef "PickleHouse$Reader" (151 : Nat) "throw") ∈ lw_tbl := lw_at lw_m5 35 rfl
theorem q1057 : (Jvm.Cond.stringRef "PickleHouse$Reader" (153 : Nat) "ready") ∈ lw_tbl := lw_at lw_m5 36 rfl
theorem q1058 : (Jvm.Cond.stringRef "PickleHouse$Reader" (155 : Nat) "cool") ∈ lw_tbl := lw_at lw_m5 37 rfl
theorem q1059 : (Jvm.Cond.stringRef "PickleHouse$Reader" (157 : Nat) "warm") ∈ lw_tbl := lw_at lw_m5 38 rfl
theorem q1060 : (Jvm.Cond.classLink "PickleHouse$Reader" (159 : Nat) "PickleHouse$Press") ∈ lw_all := lw_g (lw_at lw_m5 39 rfl) rfl
theorem q1062 : (Jvm.Cond.methodLinkNest "PickleHouse$Reader" (161 : Nat) ({ cls := "PickleHouse$Press", name := "<init>", desc := "()V" } : Jvm.MethodName) "PickleHouse") ∈ lw_tbl := lw_at lw_m5 41 rfl
theorem q1072 : (Jvm.Cond.fieldLinkNest "PickleHouse$Reader" (120 : Nat) "PickleHouse$Act" "asked" "Ljava/util/ArrayList;" "PickleHouse") ∈ lw_tbl := lw_at lw_m5 51 rfl
theorem q1076 : (Jvm.Cond.classLink "PickleHouse$Reader" (162 : Nat) "PickleHouse$Throws") ∈ lw_all := lw_g (lw_at lw_m5 55 rfl) rfl
theorem q1078 : (Jvm.Cond.methodLinkNest "PickleHouse$Reader" (164 : Nat) ({ cls := "PickleHouse$Throws", name := "<init>", desc := "()V" } : Jvm.MethodName) "PickleHouse") ∈ lw_tbl := lw_at lw_m5 57 rfl
theorem q1084 : (Jvm.Cond.classLink "PickleHouse$Reader" (165 : Nat) "PickleHouse$Ready") ∈ lw_all := lw_g (lw_at lw_m5 63 rfl) rfl
theorem q1086 : (Jvm.Cond.methodLinkNest "PickleHouse$Reader" (167 : Nat) ({ cls := "PickleHouse$Ready", name := "<init>", desc := "()V" } : Jvm.MethodName) "PickleHouse") ∈ lw_tbl := lw_at lw_m5 65 rfl
theorem q1092 : (Jvm.Cond.classLink "PickleHouse$Reader" (168 : Nat) "PickleHouse$Cools") ∈ lw_all := lw_g (lw_at lw_m5 71 rfl) rfl
theorem q1094 : (Jvm.Cond.methodLinkNest "PickleHouse$Reader" (170 : Nat) ({ cls := "PickleHouse$Cools", name := "<init>", desc := "()V" } : Jvm.MethodName) "PickleHouse") ∈ lw_tbl := lw_at lw_m5 73 rfl
theorem q1102 : (Jvm.Cond.classLink "PickleHouse$Reader" (171 : Nat) "PickleHouse$Warms") ∈ lw_all := lw_g (lw_at lw_m5 81 rfl) rfl
theorem q1104 : (Jvm.Cond.methodLinkNest "PickleHouse$Reader" (173 : Nat) ({ cls := "PickleHouse$Warms", name := "<init>", desc := "()V" } : Jvm.MethodName) "PickleHouse") ∈ lw_tbl := lw_at lw_m5 83 rfl
theorem q1110 : (Jvm.Cond.classLink "PickleHouse$Reader" (174 : Nat) "PickleHouse$Salts") ∈ lw_all := lw_g (lw_at lw_m5 89 rfl) rfl
theorem q1112 : (Jvm.Cond.methodLink "PickleHouse$Reader" (176 : Nat) ({ cls := "PickleHouse$Salts", name := "<init>", desc := "(I)V" } : Jvm.MethodName)) ∈ lw_all := lw_g (lw_at lw_m5 91 rfl) rfl
theorem q1121 : (Jvm.Cond.methodLink "PickleHouse$Reader" (126 : Nat) ({ cls := "java/util/ArrayList", name := "get", desc := "(I)Ljava/lang/Object;" } : Jvm.MethodName)) ∈ lw_all := lw_g (lw_at lw_m5 100 rfl) rfl
theorem q1122 : (Jvm.Cond.classLink "PickleHouse$Reader" (130 : Nat) "PickleHouse$Asked") ∈ lw_all := lw_g (lw_at lw_m5 101 rfl) rfl
theorem q1242 : (Jvm.Cond.selects "PickleHouse$Reader" ({ cls := "java/lang/Object", name := "equals", desc := "(Ljava/lang/Object;)Z" } : Jvm.MethodName) ({ cls := "java/lang/Object", name := "equals", desc := "(Ljava/lang/Object;)Z" } : Jvm.MethodName)) ∈ lw_all := lw_g (lw_at lw_m5 221 rfl) rfl
theorem q1722 : (Jvm.Cond.castable "PickleHouse$Reader" "java/lang/Object") ∈ lw_tbl := lw_at lw_m7 221 rfl
theorem in_X7 : ∀ w ∈ wsX70, w ∈ lw_all := lw_in wsX70 [785, 787, 789, 791, 793, 795, 797] (by decide +kernel) (by decide +kernel)
theorem q87 : (Jvm.Cond.initialized "PickleHouse$Wrong") ∈ lw_all := lw_g (lw_at lw_m1 26 rfl) rfl
theorem q410 : (Jvm.Cond.selects "PickleHouse$Wrong" ({ cls := "java/lang/Object", name := "getClass", desc := "()Ljava/lang/Class;" } : Jvm.MethodName) ({ cls := "java/lang/Object", name := "getClass", desc := "()Ljava/lang/Class;" } : Jvm.MethodName)) ∈ lw_all := lw_g (lw_at lw_m2 109 rfl) rfl
theorem q895 : (Jvm.Cond.instantiable "PickleHouse$Wrong" (8 : Nat)) ∈ lw_all := lw_g (lw_at lw_m4 114 rfl) rfl
theorem q896 : (Jvm.Cond.castable "PickleHouse$Wrong" "PickleHouse$Wrong") ∈ lw_tbl := lw_at lw_m4 115 rfl
theorem q901 : (Jvm.Cond.selects "PickleHouse$Wrong" ({ cls := "java/lang/Throwable", name := "fillInStackTrace", desc := "(I)Ljava/lang/Throwable;" } : Jvm.MethodName) ({ cls := "java/lang/Throwable", name := "fillInStackTrace", desc := "(I)Ljava/lang/Throwable;" } : Jvm.MethodName)) ∈ lw_all := lw_g (lw_at lw_m4 120 rfl) rfl
theorem q902 : (Jvm.Cond.selects "PickleHouse$Wrong" ({ cls := "java/lang/Throwable", name := "fillInStackTrace", desc := "()Ljava/lang/Throwable;" } : Jvm.MethodName) ({ cls := "java/lang/Throwable", name := "fillInStackTrace", desc := "()Ljava/lang/Throwable;" } : Jvm.MethodName)) ∈ lw_all := lw_g (lw_at lw_m4 121 rfl) rfl
theorem q903 : (Jvm.Cond.lays "PickleHouse$Wrong" "java/lang/Throwable" "cause" "Ljava/lang/Throwable;") ∈ lw_all := lw_g (lw_at lw_m4 122 rfl) rfl
theorem q905 : (Jvm.Cond.lays "PickleHouse$Wrong" "java/lang/Throwable" "stackTrace" "[Ljava/lang/StackTraceElement;") ∈ lw_all := lw_g (lw_at lw_m4 124 rfl) rfl
theorem q907 : (Jvm.Cond.lays "PickleHouse$Wrong" "java/lang/Throwable" "suppressedExceptions" "Ljava/util/List;") ∈ lw_all := lw_g (lw_at lw_m4 126 rfl) rfl
theorem q909 : (Jvm.Cond.lays "PickleHouse$Wrong" "java/lang/Throwable" "detailMessage" "Ljava/lang/String;") ∈ lw_all := lw_g (lw_at lw_m4 128 rfl) rfl
theorem q911 : (Jvm.Cond.lays "PickleHouse$Wrong" "java/lang/Throwable" "backtrace" "Ljava/lang/Object;") ∈ lw_all := lw_g (lw_at lw_m4 130 rfl) rfl
theorem q933 : (Jvm.Cond.instanceMethod ({ cls := "PickleHouse$Wrong", name := "<init>", desc := "(II)V" } : Jvm.MethodName)) ∈ lw_all := lw_g (lw_at lw_m4 152 rfl) rfl
theorem q934 : (Jvm.Cond.code ({ cls := "PickleHouse$Wrong", name := "<init>", desc := "(II)V" } : Jvm.MethodName) prog_18_method_1_code (3 : Nat) (Option.none : Option Jvm.ClassFile.FieldType)) ∈ lw_all := lw_g (lw_at lw_m4 153 rfl) rfl
theorem q935 : (Jvm.Cond.methodLink "PickleHouse$Wrong" (1 : Nat) ({ cls := "java/lang/Exception", name := "<init>", desc := "(Ljava/lang/String;Ljava/lang/Throwable;ZZ)V" } : Jvm.MethodName)) ∈ lw_all := lw_g (lw_at lw_m4 154 rfl) rfl
theorem q941 : (Jvm.Cond.fieldLink "PickleHouse$Wrong" (7 : Nat) "PickleHouse$Wrong" "kind" "I") ∈ lw_all := lw_g (lw_at lw_m4 160 rfl) rfl
theorem q943 : (Jvm.Cond.fieldLink "PickleHouse$Wrong" (13 : Nat) "PickleHouse$Wrong" "place" "I") ∈ lw_all := lw_g (lw_at lw_m4 162 rfl) rfl
theorem q950 : (Jvm.Cond.laysFinal "PickleHouse$Wrong" "PickleHouse$Wrong" "kind" "I") ∈ lw_all := lw_g (lw_at lw_m4 169 rfl) rfl
theorem q951 : (Jvm.Cond.soleField "PickleHouse$Wrong" "kind") ∈ lw_all := lw_g (lw_at lw_m4 170 rfl) rfl
theorem q952 : (Jvm.Cond.laysFinal "PickleHouse$Wrong" "PickleHouse$Wrong" "place" "I") ∈ lw_all := lw_g (lw_at lw_m4 171 rfl) rfl
theorem q953 : (Jvm.Cond.soleField "PickleHouse$Wrong" "place") ∈ lw_all := lw_g (lw_at lw_m4 172 rfl) rfl
theorem q958 : (Jvm.Cond.lays "PickleHouse$Wrong" "java/lang/Throwable" "depth" "I") ∈ lw_all := lw_g (lw_at lw_m4 177 rfl) rfl
theorem q961 : (Jvm.Cond.superclass "PickleHouse$Wrong" "java/lang/Exception") ∈ lw_all := lw_g (lw_at lw_m4 180 rfl) rfl
theorem q1249 : (Jvm.Cond.selects "PickleHouse$Wrong" ({ cls := "java/lang/Object", name := "equals", desc := "(Ljava/lang/Object;)Z" } : Jvm.MethodName) ({ cls := "java/lang/Object", name := "equals", desc := "(Ljava/lang/Object;)Z" } : Jvm.MethodName)) ∈ lw_all := lw_g (lw_at lw_m5 228 rfl) rfl
theorem q1725 : (Jvm.Cond.castable "PickleHouse$Wrong" "java/lang/Object") ∈ lw_tbl := lw_at lw_m7 224 rfl
theorem in_X8 : ∀ w ∈ wsX80, w ∈ lw_all := lw_in wsX80 [903, 905, 907, 909, 911, 958, 950, 952] (by decide +kernel) (by decide +kernel)
theorem q89 : (Jvm.Cond.initialized "PickleHouse$Compared") ∈ lw_all := lw_g (lw_at lw_m1 28 rfl) rfl
theorem q398 : (Jvm.Cond.selects "PickleHouse$Compared" ({ cls := "java/lang/Object", name := "getClass", desc := "()Ljava/lang/Class;" } : Jvm.MethodName) ({ cls := "java/lang/Object", name := "getClass", desc := "()Ljava/lang/Class;" } : Jvm.MethodName)) ∈ lw_all := lw_g (lw_at lw_m2 97 rfl) rfl
theorem q481 : (Jvm.Cond.castable "PickleHouse$Compared" "PickleHouse$Asked") ∈ lw_tbl := lw_at lw_m2 180 rfl
theorem q482 : (Jvm.Cond.selects "PickleHouse$Compared" ({ cls := "PickleHouse$Asked", name := "holds", desc := "(LPickleHouse;LPickleHouse$Crock;)Z" } : Jvm.MethodName) ({ cls := "PickleHouse$Compared", name := "holds", desc := "(LPickleHouse;LPickleHouse$Crock;)Z" } : Jvm.MethodName)) ∈ lw_all := lw_g (lw_at lw_m2 181 rfl) rfl
theorem q483 : (Jvm.Cond.unhidden "PickleHouse$Compared" "holds" "(LPickleHouse;LPickleHouse$Crock;)Z") ∈ lw_tbl := lw_at lw_m2 182 rfl
theorem q484 : (Jvm.Cond.instanceMethod ({ cls := "PickleHouse$Compared", name := "holds", desc := "(LPickleHouse;LPickleHouse$Crock;)Z" } : Jvm.MethodName)) ∈ lw_all := lw_g (lw_at lw_m2 183 rfl) rfl
theorem q485 : (Jvm.Cond.publicMethod ({ cls := "PickleHouse$Compared", name := "holds", desc := "(LPickleHouse;LPickleHouse$Crock;)Z" } : Jvm.MethodName)) ∈ lw_tbl := lw_at lw_m2 184 rfl
theorem q486 : (Jvm.Cond.code ({ cls := "PickleHouse$Compared", name := "holds", desc := "(LPickleHouse;LPickleHouse$Crock;)Z" } : Jvm.MethodName) prog_4_method_2_code (4 : Nat) (Option.some Jvm.ClassFile.FieldType.boolean)) ∈ lw_all := lw_g (lw_at lw_m2 185 rfl) rfl
theorem q487 : (Jvm.Cond.methodLinkNest "PickleHouse$Compared" (19 : Nat) ({ cls := "PickleHouse", name := "field", desc := "(LPickleHouse$Crock;I)I" } : Jvm.MethodName) "PickleHouse") ∈ lw_tbl := lw_at lw_m2 186 rfl
theorem q978 : (Jvm.Cond.instantiable "PickleHouse$Compared" (3 : Nat)) ∈ lw_all := lw_g (lw_at lw_m4 197 rfl) rfl
theorem q984 : (Jvm.Cond.instanceMethod ({ cls := "PickleHouse$Compared", name := "<init>", desc := "(III)V" } : Jvm.MethodName)) ∈ lw_all := lw_g (lw_at lw_m4 203 rfl) rfl
theorem q985 : (Jvm.Cond.code ({ cls := "PickleHouse$Compared", name := "<init>", desc := "(III)V" } : Jvm.MethodName) prog_4_method_1_code (4 : Nat) (Option.none : Option Jvm.ClassFile.FieldType)) ∈ lw_all := lw_g (lw_at lw_m4 204 rfl) rfl
theorem q986 : (Jvm.Cond.methodLink "PickleHouse$Compared" (1 : Nat) ({ cls := "java/lang/Record", name := "<init>", desc := "()V" } : Jvm.MethodName)) ∈ lw_all := lw_g (lw_at lw_m4 205 rfl) rfl
theorem q990 : (Jvm.Cond.fieldLink "PickleHouse$Compared" (7 : Nat) "PickleHouse$Compared" "field" "I") ∈ lw_all := lw_g (lw_at lw_m4 209 rfl) rfl
theorem q991 : (Jvm.Cond.fieldLink "PickleHouse$Compared" (13 : Nat) "PickleHouse$Compared" "how" "I") ∈ lw_all := lw_g (lw_at lw_m4 210 rfl) rfl
theorem q992 : (Jvm.Cond.fieldLink "PickleHouse$Compared" (16 : Nat) "PickleHouse$Compared" "number" "I") ∈ lw_all := lw_g (lw_at lw_m4 211 rfl) rfl
theorem q993 : (Jvm.Cond.laysFinal "PickleHouse$Compared" "PickleHouse$Compared" "field" "I") ∈ lw_all := lw_g (lw_at lw_m4 212 rfl) rfl
theorem q994 : (Jvm.Cond.soleField "PickleHouse$Compared" "field") ∈ lw_all := lw_g (lw_at lw_m4 213 rfl) rfl
theorem q995 : (Jvm.Cond.laysFinal "PickleHouse$Compared" "PickleHouse$Compared" "how" "I") ∈ lw_all := lw_g (lw_at lw_m4 214 rfl) rfl
theorem q996 : (Jvm.Cond.soleField "PickleHouse$Compared" "how") ∈ lw_all := lw_g (lw_at lw_m4 215 rfl) rfl
theorem q997 : (Jvm.Cond.laysFinal "PickleHouse$Compared" "PickleHouse$Compared" "number" "I") ∈ lw_all := lw_g (lw_at lw_m4 216 rfl) rfl
theorem q998 : (Jvm.Cond.soleField "PickleHouse$Compared" "number") ∈ lw_all := lw_g (lw_at lw_m4 217 rfl) rfl
theorem q999 : (Jvm.Cond.superclass "PickleHouse$Compared" "java/lang/Record") ∈ lw_all := lw_g (lw_at lw_m4 218 rfl) rfl
theorem q1726 : (Jvm.Cond.castable "PickleHouse$Compared" "java/lang/Object") ∈ lw_tbl := lw_at lw_m7 225 rfl
theorem in_X9 : ∀ w ∈ wsX90, w ∈ lw_all := lw_in wsX90 [993, 995, 997] (by decide +kernel) (by decide +kernel)
theorem q90 : (Jvm.Cond.initialized "PickleHouse$Act") ∈ lw_all := lw_g (lw_at lw_m1 29 rfl) rfl
theorem q465 : (Jvm.Cond.instanceMethod ({ cls := "PickleHouse$Act", name := "goes", desc := "(LPickleHouse;LPickleHouse$Crock;)V" } : Jvm.MethodName)) ∈ lw_all := lw_g (lw_at lw_m2 164 rfl) rfl
theorem q466 : (Jvm.Cond.sameMethod "PickleHouse$Act" "PickleHouse$Act" "goes" "(LPickleHouse;LPickleHouse$Crock;)V") ∈ lw_all := lw_g (lw_at lw_m2 165 rfl) rfl
theorem q473 : (Jvm.Cond.code ({ cls := "PickleHouse$Act", name := "goes", desc := "(LPickleHouse;LPickleHouse$Crock;)V" } : Jvm.MethodName) prog_2_method_2_code (4 : Nat) (Option.none : Option Jvm.ClassFile.FieldType)) ∈ lw_all := lw_g (lw_at lw_m2 172 rfl) rfl
theorem q474 : (Jvm.Cond.methodLink "PickleHouse$Act" (18 : Nat) ({ cls := "java/util/ArrayList", name := "size", desc := "()I" } : Jvm.MethodName)) ∈ lw_all := lw_g (lw_at lw_m2 173 rfl) rfl
theorem q475 : (Jvm.Cond.methodLink "PickleHouse$Act" (22 : Nat) ({ cls := "java/util/ArrayList", name := "get", desc := "(I)Ljava/lang/Object;" } : Jvm.MethodName)) ∈ lw_all := lw_g (lw_at lw_m2 174 rfl) rfl
theorem q476 : (Jvm.Cond.classLink "PickleHouse$Act" (26 : Nat) "PickleHouse$Asked") ∈ lw_all := lw_g (lw_at lw_m2 175 rfl) rfl
theorem q477 : (Jvm.Cond.interfaceEntry "PickleHouse$Act" (28 : Nat)) ∈ lw_tbl := lw_at lw_m2 176 rfl
theorem q478 : (Jvm.Cond.methodLink "PickleHouse$Act" (28 : Nat) ({ cls := "PickleHouse$Asked", name := "holds", desc := "(LPickleHouse;LPickleHouse$Crock;)Z" } : Jvm.MethodName)) ∈ lw_all := lw_g (lw_at lw_m2 177 rfl) rfl
theorem q510 : (Jvm.Cond.methodLink "PickleHouse$Act" (32 : Nat) ({ cls := "PickleHouse$Act", name := "does", desc := "(LPickleHouse;LPickleHouse$Crock;)V" } : Jvm.MethodName)) ∈ lw_all := lw_g (lw_at lw_m2 209 rfl) rfl
theorem q511 : (Jvm.Cond.declares ({ cls := "PickleHouse$Act", name := "does", desc := "(LPickleHouse;LPickleHouse$Crock;)V" } : Jvm.MethodName)) ∈ lw_tbl := lw_at lw_m2 210 rfl
theorem q512 : (Jvm.Cond.sameMethod "PickleHouse$Act" "PickleHouse$Act" "does" "(LPickleHouse;LPickleHouse$Crock;)V") ∈ lw_all := lw_g (lw_at lw_m2 211 rfl) rfl
theorem q1066 : (Jvm.Cond.instanceMethod ({ cls := "PickleHouse$Act", name := "<init>", desc := "()V" } : Jvm.MethodName)) ∈ lw_all := lw_g (lw_at lw_m5 45 rfl) rfl
theorem q1067 : (Jvm.Cond.code ({ cls := "PickleHouse$Act", name := "<init>", desc := "()V" } : Jvm.MethodName) prog_2_method_1_code (1 : Nat) (Option.none : Option Jvm.ClassFile.FieldType)) ∈ lw_all := lw_g (lw_at lw_m5 46 rfl) rfl
theorem q1068 : (Jvm.Cond.methodLink "PickleHouse$Act" (1 : Nat) ({ cls := "java/lang/Object", name := "<init>", desc := "()V" } : Jvm.MethodName)) ∈ lw_all := lw_g (lw_at lw_m5 47 rfl) rfl
theorem q1069 : (Jvm.Cond.classLink "PickleHouse$Act" (7 : Nat) "java/util/ArrayList") ∈ lw_all := lw_g (lw_at lw_m5 48 rfl) rfl
theorem q1070 : (Jvm.Cond.methodLink "PickleHouse$Act" (9 : Nat) ({ cls := "java/util/ArrayList", name := "<init>", desc := "(I)V" } : Jvm.MethodName)) ∈ lw_all := lw_g (lw_at lw_m5 49 rfl) rfl
theorem q1071 : (Jvm.Cond.fieldLink "PickleHouse$Act" (12 : Nat) "PickleHouse$Act" "asked" "Ljava/util/ArrayList;") ∈ lw_all := lw_g (lw_at lw_m5 50 rfl) rfl
theorem q1074 : (Jvm.Cond.soleField "PickleHouse$Act" "asked") ∈ lw_all := lw_g (lw_at lw_m5 53 rfl) rfl
theorem q91 : (Jvm.Cond.initialized "PickleHouse$Press") ∈ lw_all := lw_g (lw_at lw_m1 30 rfl) rfl
theorem q326 : (Jvm.Cond.fieldLinkNest "PickleHouse$Press" (7 : Nat) "PickleHouse$Crock" "gas" "I" "PickleHouse") ∈ lw_tbl := lw_at lw_m2 25 rfl
theorem q402 : (Jvm.Cond.selects "PickleHouse$Press" ({ cls := "java/lang/Object", name := "getClass", desc := "()Ljava/lang/Class;" } : Jvm.MethodName) ({ cls := "java/lang/Object", name := "getClass", desc := "()Ljava/lang/Class;" } : Jvm.MethodName)) ∈ lw_all := lw_g (lw_at lw_m2 101 rfl) rfl
theorem q468 : (Jvm.Cond.selects "PickleHouse$Press" ({ cls := "PickleHouse$Act", name := "goes", desc := "(LPickleHouse;LPickleHouse$Crock;)V" } : Jvm.MethodName) ({ cls := "PickleHouse$Act", name := "goes", desc := "(LPickleHouse;LPickleHouse$Crock;)V" } : Jvm.MethodName)) ∈ lw_all := lw_g (lw_at lw_m2 167 rfl) rfl
theorem q534 : (Jvm.Cond.selects "PickleHouse$Press" ({ cls := "PickleHouse$Act", name := "does", desc := "(LPickleHouse;LPickleHouse$Crock;)V" } : Jvm.MethodName) ({ cls := "PickleHouse$Press", name := "does", desc := "(LPickleHouse;LPickleHouse$Crock;)V" } : Jvm.MethodName)) ∈ lw_all := lw_g (lw_at lw_m2 233 rfl) rfl
theorem q535 : (Jvm.Cond.instanceMethod ({ cls := "PickleHouse$Press", name := "does", desc := "(LPickleHouse;LPickleHouse$Crock;)V" } : Jvm.MethodName)) ∈ lw_all := lw_g (lw_at lw_m2 234 rfl) rfl
theorem q536 : (Jvm.Cond.code ({ cls := "PickleHouse$Press", name := "does", desc := "(LPickleHouse;LPickleHouse$Crock;)V" } : Jvm.MethodName) prog_10_method_2_code (3 : Nat) (Option.none : Option Jvm.ClassFile.FieldType)) ∈ lw_all := lw_g (lw_at lw_m2 235 rfl) rfl
theorem q1061 : (Jvm.Cond.instantiable "PickleHouse$Press" (1 : Nat)) ∈ lw_all := lw_g (lw_at lw_m5 40 rfl) rfl
theorem q1063 : (Jvm.Cond.instanceMethod ({ cls := "PickleHouse$Press", name := "<init>", desc := "()V" } : Jvm.MethodName)) ∈ lw_all := lw_g (lw_at lw_m5 42 rfl) rfl
theorem q1064 : (Jvm.Cond.code ({ cls := "PickleHouse$Press", name := "<init>", desc := "()V" } : Jvm.MethodName) prog_10_method_1_code (1 : Nat) (Option.none : Option Jvm.ClassFile.FieldType)) ∈ lw_all := lw_g (lw_at lw_m5 43 rfl) rfl
theorem q1065 : (Jvm.Cond.methodLinkNest "PickleHouse$Press" (1 : Nat) ({ cls := "PickleHouse$Act", name := "<init>", desc := "()V" } : Jvm.MethodName) "PickleHouse") ∈ lw_tbl := lw_at lw_m5 44 rfl
theorem q1073 : (Jvm.Cond.laysFinal "PickleHouse$Press" "PickleHouse$Act" "asked" "Ljava/util/ArrayList;") ∈ lw_all := lw_g (lw_at lw_m5 52 rfl) rfl
theorem q1075 : (Jvm.Cond.superclass "PickleHouse$Press" "PickleHouse$Act") ∈ lw_all := lw_g (lw_at lw_m5 54 rfl) rfl
theorem q1241 : (Jvm.Cond.selects "PickleHouse$Press" ({ cls := "java/lang/Object", name := "equals", desc := "(Ljava/lang/Object;)Z" } : Jvm.MethodName) ({ cls := "java/lang/Object", name := "equals", desc := "(Ljava/lang/Object;)Z" } : Jvm.MethodName)) ∈ lw_all := lw_g (lw_at lw_m5 220 rfl) rfl
theorem q1710 : (Jvm.Cond.castable "PickleHouse$Press" "PickleHouse$Act") ∈ lw_tbl := lw_at lw_m7 209 rfl
theorem q1728 : (Jvm.Cond.castable "PickleHouse$Press" "java/lang/Object") ∈ lw_tbl := lw_at lw_m7 227 rfl
theorem in_X11 : ∀ w ∈ wsX110, w ∈ lw_all := lw_in wsX110 [1073] (by decide +kernel) (by decide +kernel)
theorem q92 : (Jvm.Cond.initialized "PickleHouse$Throws") ∈ lw_all := lw_g (lw_at lw_m1 31 rfl) rfl
theorem q408 : (Jvm.Cond.selects "PickleHouse$Throws" ({ cls := "java/lang/Object", name := "getClass", desc := "()Ljava/lang/Class;" } : Jvm.MethodName) ({ cls := "java/lang/Object", name := "getClass", desc := "()Ljava/lang/Class;" } : Jvm.MethodName)) ∈ lw_all := lw_g (lw_at lw_m2 107 rfl) rfl
theorem q471 : (Jvm.Cond.selects "PickleHouse$Throws" ({ cls := "PickleHouse$Act", name := "goes", desc := "(LPickleHouse;LPickleHouse$Crock;)V" } : Jvm.MethodName) ({ cls := "PickleHouse$Act", name := "goes", desc := "(LPickleHouse;LPickleHouse$Crock;)V" } : Jvm.MethodName)) ∈ lw_all := lw_g (lw_at lw_m2 170 rfl) rfl
theorem q544 : (Jvm.Cond.selects "PickleHouse$Throws" ({ cls := "PickleHouse$Act", name := "does", desc := "(LPickleHouse;LPickleHouse$Crock;)V" } : Jvm.MethodName) ({ cls := "PickleHouse$Throws", name := "does", desc := "(LPickleHouse;LPickleHouse$Crock;)V" } : Jvm.MethodName)) ∈ lw_all := lw_g (lw_at lw_m3 3 rfl) rfl
theorem q545 : (Jvm.Cond.instanceMethod ({ cls := "PickleHouse$Throws", name := "does", desc := "(LPickleHouse;LPickleHouse$Crock;)V" } : Jvm.MethodName)) ∈ lw_all := lw_g (lw_at lw_m3 4 rfl) rfl
theorem q546 : (Jvm.Cond.code ({ cls := "PickleHouse$Throws", name := "does", desc := "(LPickleHouse;LPickleHouse$Crock;)V" } : Jvm.MethodName) prog_16_method_2_code (3 : Nat) (Option.none : Option Jvm.ClassFile.FieldType)) ∈ lw_all := lw_g (lw_at lw_m3 5 rfl) rfl
theorem q547 : (Jvm.Cond.methodLinkNest "PickleHouse$Throws" (9 : Nat) ({ cls := "PickleHouse", name := "wastes", desc := "(LPickleHouse$Crock;I)V" } : Jvm.MethodName) "PickleHouse") ∈ lw_tbl := lw_at lw_m3 6 rfl
theorem q1077 : (Jvm.Cond.instantiable "PickleHouse$Throws" (1 : Nat)) ∈ lw_all := lw_g (lw_at lw_m5 56 rfl) rfl
theorem q1079 : (Jvm.Cond.instanceMethod ({ cls := "PickleHouse$Throws", name := "<init>", desc := "()V" } : Jvm.MethodName)) ∈ lw_all := lw_g (lw_at lw_m5 58 rfl) rfl
theorem q1080 : (Jvm.Cond.code ({ cls := "PickleHouse$Throws", name := "<init>", desc := "()V" } : Jvm.MethodName) prog_16_method_1_code (1 : Nat) (Option.none : Option Jvm.ClassFile.FieldType)) ∈ lw_all := lw_g (lw_at lw_m5 59 rfl) rfl
theorem q1081 : (Jvm.Cond.methodLinkNest "PickleHouse$Throws" (3 : Nat) ({ cls := "PickleHouse$Act", name := "<init>", desc := "()V" } : Jvm.MethodName) "PickleHouse") ∈ lw_tbl := lw_at lw_m5 60 rfl
theorem q1082 : (Jvm.Cond.laysFinal "PickleHouse$Throws" "PickleHouse$Act" "asked" "Ljava/util/ArrayList;") ∈ lw_all := lw_g (lw_at lw_m5 61 rfl) rfl
theorem q1083 : (Jvm.Cond.superclass "PickleHouse$Throws" "PickleHouse$Act") ∈ lw_all := lw_g (lw_at lw_m5 62 rfl) rfl
theorem q1247 : (Jvm.Cond.selects "PickleHouse$Throws" ({ cls := "java/lang/Object", name := "equals", desc := "(Ljava/lang/Object;)Z" } : Jvm.MethodName) ({ cls := "java/lang/Object", name := "equals", desc := "(Ljava/lang/Object;)Z" } : Jvm.MethodName)) ∈ lw_all := lw_g (lw_at lw_m5 226 rfl) rfl
theorem q1713 : (Jvm.Cond.castable "PickleHouse$Throws" "PickleHouse$Act") ∈ lw_tbl := lw_at lw_m7 212 rfl
theorem q1729 : (Jvm.Cond.castable "PickleHouse$Throws" "java/lang/Object") ∈ lw_tbl := lw_at lw_m7 228 rfl
theorem in_X12 : ∀ w ∈ wsX120, w ∈ lw_all := lw_in wsX120 [1082] (by decide +kernel) (by decide +kernel)
theorem q93 : (Jvm.Cond.initialized "PickleHouse$Ready") ∈ lw_all := lw_g (lw_at lw_m1 32 rfl) rfl
theorem q333 : (Jvm.Cond.fieldLinkNest "PickleHouse$Ready" (9 : Nat) "PickleHouse$Crock" "state" "I" "PickleHouse") ∈ lw_tbl := lw_at lw_m2 32 rfl
theorem q404 : (Jvm.Cond.selects "PickleHouse$Ready" ({ cls := "java/lang/Object", name := "getClass", desc := "()Ljava/lang/Class;" } : Jvm.MethodName) ({ cls := "java/lang/Object", name := "getClass", desc := "()Ljava/lang/Class;" } : Jvm.MethodName)) ∈ lw_all := lw_g (lw_at lw_m2 103 rfl) rfl
theorem q469 : (Jvm.Cond.selects "PickleHouse$Ready" ({ cls := "PickleHouse$Act", name := "goes", desc := "(LPickleHouse;LPickleHouse$Crock;)V" } : Jvm.MethodName) ({ cls := "PickleHouse$Act", name := "goes", desc := "(LPickleHouse;LPickleHouse$Crock;)V" } : Jvm.MethodName)) ∈ lw_all := lw_g (lw_at lw_m2 168 rfl) rfl
theorem q537 : (Jvm.Cond.selects "PickleHouse$Ready" ({ cls := "PickleHouse$Act", name := "does", desc := "(LPickleHouse;LPickleHouse$Crock;)V" } : Jvm.MethodName) ({ cls := "PickleHouse$Ready", name := "does", desc := "(LPickleHouse;LPickleHouse$Crock;)V" } : Jvm.MethodName)) ∈ lw_all := lw_g (lw_at lw_m2 236 rfl) rfl
theorem q538 : (Jvm.Cond.instanceMethod ({ cls := "PickleHouse$Ready", name := "does", desc := "(LPickleHouse;LPickleHouse$Crock;)V" } : Jvm.MethodName)) ∈ lw_all := lw_g (lw_at lw_m2 237 rfl) rfl
theorem q539 : (Jvm.Cond.code ({ cls := "PickleHouse$Ready", name := "does", desc := "(LPickleHouse;LPickleHouse$Crock;)V" } : Jvm.MethodName) prog_12_method_2_code (3 : Nat) (Option.none : Option Jvm.ClassFile.FieldType)) ∈ lw_all := lw_g (lw_at lw_m2 238 rfl) rfl
theorem q1085 : (Jvm.Cond.instantiable "PickleHouse$Ready" (1 : Nat)) ∈ lw_all := lw_g (lw_at lw_m5 64 rfl) rfl
theorem q1087 : (Jvm.Cond.instanceMethod ({ cls := "PickleHouse$Ready", name := "<init>", desc := "()V" } : Jvm.MethodName)) ∈ lw_all := lw_g (lw_at lw_m5 66 rfl) rfl
theorem q1088 : (Jvm.Cond.code ({ cls := "PickleHouse$Ready", name := "<init>", desc := "()V" } : Jvm.MethodName) prog_12_method_1_code (1 : Nat) (Option.none : Option Jvm.ClassFile.FieldType)) ∈ lw_all := lw_g (lw_at lw_m5 67 rfl) rfl
theorem q1089 : (Jvm.Cond.methodLinkNest "PickleHouse$Ready" (3 : Nat) ({ cls := "PickleHouse$Act", name := "<init>", desc := "()V" } : Jvm.MethodName) "PickleHouse") ∈ lw_tbl := lw_at lw_m5 68 rfl
theorem q1090 : (Jvm.Cond.laysFinal "PickleHouse$Ready" "PickleHouse$Act" "asked" "Ljava/util/ArrayList;") ∈ lw_all := lw_g (lw_at lw_m5 69 rfl) rfl
theorem q1091 : (Jvm.Cond.superclass "PickleHouse$Ready" "PickleHouse$Act") ∈ lw_all := lw_g (lw_at lw_m5 70 rfl) rfl
theorem q1243 : (Jvm.Cond.selects "PickleHouse$Ready" ({ cls := "java/lang/Object", name := "equals", desc := "(Ljava/lang/Object;)Z" } : Jvm.MethodName) ({ cls := "java/lang/Object", name := "equals", desc := "(Ljava/lang/Object;)Z" } : Jvm.MethodName)) ∈ lw_all := lw_g (lw_at lw_m5 222 rfl) rfl
theorem q1711 : (Jvm.Cond.castable "PickleHouse$Ready" "PickleHouse$Act") ∈ lw_tbl := lw_at lw_m7 210 rfl
theorem q1730 : (Jvm.Cond.castable "PickleHouse$Ready" "java/lang/Object") ∈ lw_tbl := lw_at lw_m7 229 rfl
theorem in_X13 : ∀ w ∈ wsX130, w ∈ lw_all := lw_in wsX130 [1090] (by decide +kernel) (by decide +kernel)
theorem q94 : (Jvm.Cond.initialized "PickleHouse$Moves") ∈ lw_all := lw_g (lw_at lw_m1 33 rfl) rfl
theorem q321 : (Jvm.Cond.fieldLinkNest "PickleHouse$Moves" (24 : Nat) "PickleHouse$Crock" "place" "I" "PickleHouse") ∈ lw_tbl := lw_at lw_m2 20 rfl
theorem q518 : (Jvm.Cond.instanceMethod ({ cls := "PickleHouse$Moves", name := "does", desc := "(LPickleHouse;LPickleHouse$Crock;)V" } : Jvm.MethodName)) ∈ lw_all := lw_g (lw_at lw_m2 217 rfl) rfl
theorem q519 : (Jvm.Cond.code ({ cls := "PickleHouse$Moves", name := "does", desc := "(LPickleHouse;LPickleHouse$Crock;)V" } : Jvm.MethodName) prog_9_method_3_code (4 : Nat) (Option.none : Option Jvm.ClassFile.FieldType)) ∈ lw_all := lw_g (lw_at lw_m2 218 rfl) rfl
theorem q520 : (Jvm.Cond.methodLink "PickleHouse$Moves" (9 : Nat) ({ cls := "PickleHouse$Crock", name := "isCold", desc := "()Z" } : Jvm.MethodName)) ∈ lw_all := lw_g (lw_at lw_m2 219 rfl) rfl
theorem q521 : (Jvm.Cond.methodLink "PickleHouse$Moves" (15 : Nat) ({ cls := "PickleHouse$Moves", name := "toCold", desc := "()Z" } : Jvm.MethodName)) ∈ lw_all := lw_g (lw_at lw_m2 220 rfl) rfl
theorem q522 : (Jvm.Cond.declares ({ cls := "PickleHouse$Moves", name := "toCold", desc := "()Z" } : Jvm.MethodName)) ∈ lw_tbl := lw_at lw_m2 221 rfl
theorem q523 : (Jvm.Cond.sameMethod "PickleHouse$Moves" "PickleHouse$Moves" "toCold" "()Z") ∈ lw_all := lw_g (lw_at lw_m2 222 rfl) rfl
theorem q530 : (Jvm.Cond.methodLinkNest "PickleHouse$Moves" (20 : Nat) ({ cls := "PickleHouse", name := "free", desc := "(II)I" } : Jvm.MethodName) "PickleHouse") ∈ lw_tbl := lw_at lw_m2 229 rfl
theorem q1098 : (Jvm.Cond.instanceMethod ({ cls := "PickleHouse$Moves", name := "<init>", desc := "()V" } : Jvm.MethodName)) ∈ lw_all := lw_g (lw_at lw_m5 77 rfl) rfl
theorem q1099 : (Jvm.Cond.code ({ cls := "PickleHouse$Moves", name := "<init>", desc := "()V" } : Jvm.MethodName) prog_9_method_1_code (1 : Nat) (Option.none : Option Jvm.ClassFile.FieldType)) ∈ lw_all := lw_g (lw_at lw_m5 78 rfl) rfl
theorem q1100 : (Jvm.Cond.methodLinkNest "PickleHouse$Moves" (3 : Nat) ({ cls := "PickleHouse$Act", name := "<init>", desc := "()V" } : Jvm.MethodName) "PickleHouse") ∈ lw_tbl := lw_at lw_m5 79 rfl
theorem q1695 : (Jvm.Cond.sameMethod "PickleHouse$Moves" "PickleHouse$Moves" "does" "(LPickleHouse;LPickleHouse$Crock;)V") ∈ lw_all := lw_g (lw_at lw_m7 194 rfl) rfl
theorem q95 : (Jvm.Cond.initialized "PickleHouse$Cools") ∈ lw_all := lw_g (lw_at lw_m1 34 rfl) rfl
theorem q399 : (Jvm.Cond.selects "PickleHouse$Cools" ({ cls := "java/lang/Object", name := "getClass", desc := "()Ljava/lang/Class;" } : Jvm.MethodName) ({ cls := "java/lang/Object", name := "getClass", desc := "()Ljava/lang/Class;" } : Jvm.MethodName)) ∈ lw_all := lw_g (lw_at lw_m2 98 rfl) rfl
theorem q467 : (Jvm.Cond.selects "PickleHouse$Cools" ({ cls := "PickleHouse$Act", name := "goes", desc := "(LPickleHouse;LPickleHouse$Crock;)V" } : Jvm.MethodName) ({ cls := "PickleHouse$Act", name := "goes", desc := "(LPickleHouse;LPickleHouse$Crock;)V" } : Jvm.MethodName)) ∈ lw_all := lw_g (lw_at lw_m2 166 rfl) rfl
theorem q513 : (Jvm.Cond.selects "PickleHouse$Cools" ({ cls := "PickleHouse$Act", name := "does", desc := "(LPickleHouse;LPickleHouse$Crock;)V" } : Jvm.MethodName) ({ cls := "PickleHouse$Cools", name := "does", desc := "(LPickleHouse;LPickleHouse$Crock;)V" } : Jvm.MethodName)) ∈ lw_all := lw_g (lw_at lw_m2 212 rfl) rfl
theorem q514 : (Jvm.Cond.instanceMethod ({ cls := "PickleHouse$Cools", name := "does", desc := "(LPickleHouse;LPickleHouse$Crock;)V" } : Jvm.MethodName)) ∈ lw_all := lw_g (lw_at lw_m2 213 rfl) rfl
theorem q515 : (Jvm.Cond.code ({ cls := "PickleHouse$Cools", name := "does", desc := "(LPickleHouse;LPickleHouse$Crock;)V" } : Jvm.MethodName) prog_5_method_3_code (3 : Nat) (Option.none : Option Jvm.ClassFile.FieldType)) ∈ lw_all := lw_g (lw_at lw_m2 214 rfl) rfl
theorem q516 : (Jvm.Cond.methodLink "PickleHouse$Cools" (7 : Nat) ({ cls := "PickleHouse$Moves", name := "does", desc := "(LPickleHouse;LPickleHouse$Crock;)V" } : Jvm.MethodName)) ∈ lw_all := lw_g (lw_at lw_m2 215 rfl) rfl
theorem q517 : (Jvm.Cond.superclass "PickleHouse$Cools" "PickleHouse$Moves") ∈ lw_all := lw_g (lw_at lw_m2 216 rfl) rfl
theorem q524 : (Jvm.Cond.selects "PickleHouse$Cools" ({ cls := "PickleHouse$Moves", name := "toCold", desc := "()Z" } : Jvm.MethodName) ({ cls := "PickleHouse$Cools", name := "toCold", desc := "()Z" } : Jvm.MethodName)) ∈ lw_all := lw_g (lw_at lw_m2 223 rfl) rfl
theorem q525 : (Jvm.Cond.instanceMethod ({ cls := "PickleHouse$Cools", name := "toCold", desc := "()Z" } : Jvm.MethodName)) ∈ lw_all := lw_g (lw_at lw_m2 224 rfl) rfl
theorem q526 : (Jvm.Cond.code ({ cls := "PickleHouse$Cools", name := "toCold", desc := "()Z" } : Jvm.MethodName) prog_5_method_2_code (1 : Nat) (Option.some Jvm.ClassFile.FieldType.boolean)) ∈ lw_all := lw_g (lw_at lw_m2 225 rfl) rfl
theorem q1093 : (Jvm.Cond.instantiable "PickleHouse$Cools" (1 : Nat)) ∈ lw_all := lw_g (lw_at lw_m5 72 rfl) rfl
theorem q1095 : (Jvm.Cond.instanceMethod ({ cls := "PickleHouse$Cools", name := "<init>", desc := "()V" } : Jvm.MethodName)) ∈ lw_all := lw_g (lw_at lw_m5 74 rfl) rfl
theorem q1096 : (Jvm.Cond.code ({ cls := "PickleHouse$Cools", name := "<init>", desc := "()V" } : Jvm.MethodName) prog_5_method_1_code (1 : Nat) (Option.none : Option Jvm.ClassFile.FieldType)) ∈ lw_all := lw_g (lw_at lw_m5 75 rfl) rfl
theorem q1097 : (Jvm.Cond.methodLinkNest "PickleHouse$Cools" (1 : Nat) ({ cls := "PickleHouse$Moves", name := "<init>", desc := "()V" } : Jvm.MethodName) "PickleHouse") ∈ lw_tbl := lw_at lw_m5 76 rfl
theorem q1101 : (Jvm.Cond.laysFinal "PickleHouse$Cools" "PickleHouse$Act" "asked" "Ljava/util/ArrayList;") ∈ lw_all := lw_g (lw_at lw_m5 80 rfl) rfl
theorem q1238 : (Jvm.Cond.selects "PickleHouse$Cools" ({ cls := "java/lang/Object", name := "equals", desc := "(Ljava/lang/Object;)Z" } : Jvm.MethodName) ({ cls := "java/lang/Object", name := "equals", desc := "(Ljava/lang/Object;)Z" } : Jvm.MethodName)) ∈ lw_all := lw_g (lw_at lw_m5 217 rfl) rfl
theorem q1709 : (Jvm.Cond.castable "PickleHouse$Cools" "PickleHouse$Act") ∈ lw_tbl := lw_at lw_m7 208 rfl
theorem q1731 : (Jvm.Cond.castable "PickleHouse$Cools" "java/lang/Object") ∈ lw_tbl := lw_at lw_m7 230 rfl
theorem in_X15 : ∀ w ∈ wsX150, w ∈ lw_all := lw_in wsX150 [1101] (by decide +kernel) (by decide +kernel)
theorem q96 : (Jvm.Cond.initialized "PickleHouse$Warms") ∈ lw_all := lw_g (lw_at lw_m1 35 rfl) rfl
theorem q409 : (Jvm.Cond.selects "PickleHouse$Warms" ({ cls := "java/lang/Object", name := "getClass", desc := "()Ljava/lang/Class;" } : Jvm.MethodName) ({ cls := "java/lang/Object", name := "getClass", desc := "()Ljava/lang/Class;" } : Jvm.MethodName)) ∈ lw_all := lw_g (lw_at lw_m2 108 rfl) rfl
theorem q472 : (Jvm.Cond.selects "PickleHouse$Warms" ({ cls := "PickleHouse$Act", name := "goes", desc := "(LPickleHouse;LPickleHouse$Crock;)V" } : Jvm.MethodName) ({ cls := "PickleHouse$Act", name := "goes", desc := "(LPickleHouse;LPickleHouse$Crock;)V" } : Jvm.MethodName)) ∈ lw_all := lw_g (lw_at lw_m2 171 rfl) rfl
theorem q527 : (Jvm.Cond.selects "PickleHouse$Warms" ({ cls := "PickleHouse$Moves", name := "toCold", desc := "()Z" } : Jvm.MethodName) ({ cls := "PickleHouse$Warms", name := "toCold", desc := "()Z" } : Jvm.MethodName)) ∈ lw_all := lw_g (lw_at lw_m2 226 rfl) rfl
theorem q528 : (Jvm.Cond.instanceMethod ({ cls := "PickleHouse$Warms", name := "toCold", desc := "()Z" } : Jvm.MethodName)) ∈ lw_all := lw_g (lw_at lw_m2 227 rfl) rfl
theorem q529 : (Jvm.Cond.code ({ cls := "PickleHouse$Warms", name := "toCold", desc := "()Z" } : Jvm.MethodName) prog_17_method_2_code (1 : Nat) (Option.some Jvm.ClassFile.FieldType.boolean)) ∈ lw_all := lw_g (lw_at lw_m2 228 rfl) rfl
theorem q555 : (Jvm.Cond.selects "PickleHouse$Warms" ({ cls := "PickleHouse$Act", name := "does", desc := "(LPickleHouse;LPickleHouse$Crock;)V" } : Jvm.MethodName) ({ cls := "PickleHouse$Moves", name := "does", desc := "(LPickleHouse;LPickleHouse$Crock;)V" } : Jvm.MethodName)) ∈ lw_all := lw_g (lw_at lw_m3 14 rfl) rfl
theorem q1103 : (Jvm.Cond.instantiable "PickleHouse$Warms" (1 : Nat)) ∈ lw_all := lw_g (lw_at lw_m5 82 rfl) rfl
theorem q1105 : (Jvm.Cond.instanceMethod ({ cls := "PickleHouse$Warms", name := "<init>", desc := "()V" } : Jvm.MethodName)) ∈ lw_all := lw_g (lw_at lw_m5 84 rfl) rfl
theorem q1106 : (Jvm.Cond.code ({ cls := "PickleHouse$Warms", name := "<init>", desc := "()V" } : Jvm.MethodName) prog_17_method_1_code (1 : Nat) (Option.none : Option Jvm.ClassFile.FieldType)) ∈ lw_all := lw_g (lw_at lw_m5 85 rfl) rfl
theorem q1107 : (Jvm.Cond.methodLinkNest "PickleHouse$Warms" (1 : Nat) ({ cls := "PickleHouse$Moves", name := "<init>", desc := "()V" } : Jvm.MethodName) "PickleHouse") ∈ lw_tbl := lw_at lw_m5 86 rfl
theorem q1108 : (Jvm.Cond.laysFinal "PickleHouse$Warms" "PickleHouse$Act" "asked" "Ljava/util/ArrayList;") ∈ lw_all := lw_g (lw_at lw_m5 87 rfl) rfl
theorem q1109 : (Jvm.Cond.superclass "PickleHouse$Warms" "PickleHouse$Moves") ∈ lw_all := lw_g (lw_at lw_m5 88 rfl) rfl
theorem q1248 : (Jvm.Cond.selects "PickleHouse$Warms" ({ cls := "java/lang/Object", name := "equals", desc := "(Ljava/lang/Object;)Z" } : Jvm.MethodName) ({ cls := "java/lang/Object", name := "equals", desc := "(Ljava/lang/Object;)Z" } : Jvm.MethodName)) ∈ lw_all := lw_g (lw_at lw_m5 227 rfl) rfl
theorem q1714 : (Jvm.Cond.castable "PickleHouse$Warms" "PickleHouse$Act") ∈ lw_tbl := lw_at lw_m7 213 rfl
theorem q1732 : (Jvm.Cond.castable "PickleHouse$Warms" "java/lang/Object") ∈ lw_tbl := lw_at lw_m7 231 rfl
theorem in_X16 : ∀ w ∈ wsX160, w ∈ lw_all := lw_in wsX160 [1108] (by decide +kernel) (by decide +kernel)
theorem q97 : (Jvm.Cond.initialized "PickleHouse$Salts") ∈ lw_all := lw_g (lw_at lw_m1 36 rfl) rfl
theorem q324 : (Jvm.Cond.fieldLinkNest "PickleHouse$Salts" (13 : Nat) "PickleHouse$Crock" "salt" "I" "PickleHouse") ∈ lw_tbl := lw_at lw_m2 23 rfl
theorem q406 : (Jvm.Cond.selects "PickleHouse$Salts" ({ cls := "java/lang/Object", name := "getClass", desc := "()Ljava/lang/Class;" } : Jvm.MethodName) ({ cls := "java/lang/Object", name := "getClass", desc := "()Ljava/lang/Class;" } : Jvm.MethodName)) ∈ lw_all := lw_g (lw_at lw_m2 105 rfl) rfl
theorem q470 : (Jvm.Cond.selects "PickleHouse$Salts" ({ cls := "PickleHouse$Act", name := "goes", desc := "(LPickleHouse;LPickleHouse$Crock;)V" } : Jvm.MethodName) ({ cls := "PickleHouse$Act", name := "goes", desc := "(LPickleHouse;LPickleHouse$Crock;)V" } : Jvm.MethodName)) ∈ lw_all := lw_g (lw_at lw_m2 169 rfl) rfl
theorem q540 : (Jvm.Cond.selects "PickleHouse$Salts" ({ cls := "PickleHouse$Act", name := "does", desc := "(LPickleHouse;LPickleHouse$Crock;)V" } : Jvm.MethodName) ({ cls := "PickleHouse$Salts", name := "does", desc := "(LPickleHouse;LPickleHouse$Crock;)V" } : Jvm.MethodName)) ∈ lw_all := lw_g (lw_at lw_m2 239 rfl) rfl
theorem q541 : (Jvm.Cond.instanceMethod ({ cls := "PickleHouse$Salts", name := "does", desc := "(LPickleHouse;LPickleHouse$Crock;)V" } : Jvm.MethodName)) ∈ lw_all := lw_g (lw_at lw_m3 0 rfl) rfl
theorem q542 : (Jvm.Cond.code ({ cls := "PickleHouse$Salts", name := "does", desc := "(LPickleHouse;LPickleHouse$Crock;)V" } : Jvm.MethodName) prog_14_method_2_code (3 : Nat) (Option.none : Option Jvm.ClassFile.FieldType)) ∈ lw_all := lw_g (lw_at lw_m3 1 rfl) rfl
theorem q543 : (Jvm.Cond.methodLink "PickleHouse$Salts" (18 : Nat) ({ cls := "java/lang/Math", name := "min", desc := "(II)I" } : Jvm.MethodName)) ∈ lw_all := lw_g (lw_at lw_m3 2 rfl) rfl
theorem q1111 : (Jvm.Cond.instantiable "PickleHouse$Salts" (2 : Nat)) ∈ lw_all := lw_g (lw_at lw_m5 90 rfl) rfl
theorem q1113 : (Jvm.Cond.instanceMethod ({ cls := "PickleHouse$Salts", name := "<init>", desc := "(I)V" } : Jvm.MethodName)) ∈ lw_all := lw_g (lw_at lw_m5 92 rfl) rfl
theorem q1114 : (Jvm.Cond.code ({ cls := "PickleHouse$Salts", name := "<init>", desc := "(I)V" } : Jvm.MethodName) prog_14_method_1_code (2 : Nat) (Option.none : Option Jvm.ClassFile.FieldType)) ∈ lw_all := lw_g (lw_at lw_m5 93 rfl) rfl
theorem q1115 : (Jvm.Cond.methodLinkNest "PickleHouse$Salts" (1 : Nat) ({ cls := "PickleHouse$Act", name := "<init>", desc := "()V" } : Jvm.MethodName) "PickleHouse") ∈ lw_tbl := lw_at lw_m5 94 rfl
theorem q1116 : (Jvm.Cond.fieldLink "PickleHouse$Salts" (7 : Nat) "PickleHouse$Salts" "n" "I") ∈ lw_all := lw_g (lw_at lw_m5 95 rfl) rfl
theorem q1117 : (Jvm.Cond.laysFinal "PickleHouse$Salts" "PickleHouse$Salts" "n" "I") ∈ lw_all := lw_g (lw_at lw_m5 96 rfl) rfl
theorem q1118 : (Jvm.Cond.soleField "PickleHouse$Salts" "n") ∈ lw_all := lw_g (lw_at lw_m5 97 rfl) rfl
theorem q1119 : (Jvm.Cond.laysFinal "PickleHouse$Salts" "PickleHouse$Act" "asked" "Ljava/util/ArrayList;") ∈ lw_all := lw_g (lw_at lw_m5 98 rfl) rfl
theorem q1120 : (Jvm.Cond.superclass "PickleHouse$Salts" "PickleHouse$Act") ∈ lw_all := lw_g (lw_at lw_m5 99 rfl) rfl
theorem q1245 : (Jvm.Cond.selects "PickleHouse$Salts" ({ cls := "java/lang/Object", name := "equals", desc := "(Ljava/lang/Object;)Z" } : Jvm.MethodName) ({ cls := "java/lang/Object", name := "equals", desc := "(Ljava/lang/Object;)Z" } : Jvm.MethodName)) ∈ lw_all := lw_g (lw_at lw_m5 224 rfl) rfl
theorem q1712 : (Jvm.Cond.castable "PickleHouse$Salts" "PickleHouse$Act") ∈ lw_tbl := lw_at lw_m7 211 rfl
theorem q1733 : (Jvm.Cond.castable "PickleHouse$Salts" "java/lang/Object") ∈ lw_tbl := lw_at lw_m7 232 rfl
theorem in_X17 : ∀ w ∈ wsX170, w ∈ lw_all := lw_in wsX170 [1119, 1117] (by decide +kernel) (by decide +kernel)
theorem q98 : (Jvm.Cond.initialized "PickleHouse$Jar") ∈ lw_all := lw_g (lw_at lw_m1 37 rfl) rfl
theorem q341 : (Jvm.Cond.sameField "PickleHouse$Jar" "PickleHouse$Holder" "grams" "[I") ∈ lw_all := lw_g (lw_at lw_m2 40 rfl) rfl
theorem q401 : (Jvm.Cond.selects "PickleHouse$Jar" ({ cls := "java/lang/Object", name := "getClass", desc := "()Ljava/lang/Class;" } : Jvm.MethodName) ({ cls := "java/lang/Object", name := "getClass", desc := "()Ljava/lang/Class;" } : Jvm.MethodName)) ∈ lw_all := lw_g (lw_at lw_m2 100 rfl) rfl
theorem q1164 : (Jvm.Cond.instantiable "PickleHouse$Jar" (1 : Nat)) ∈ lw_all := lw_g (lw_at lw_m5 143 rfl) rfl
theorem q1166 : (Jvm.Cond.instanceMethod ({ cls := "PickleHouse$Jar", name := "<init>", desc := "()V" } : Jvm.MethodName)) ∈ lw_all := lw_g (lw_at lw_m5 145 rfl) rfl
theorem q1167 : (Jvm.Cond.code ({ cls := "PickleHouse$Jar", name := "<init>", desc := "()V" } : Jvm.MethodName) prog_8_method_1_code (1 : Nat) (Option.none : Option Jvm.ClassFile.FieldType)) ∈ lw_all := lw_g (lw_at lw_m5 146 rfl) rfl
theorem q1168 : (Jvm.Cond.methodLinkNest "PickleHouse$Jar" (1 : Nat) ({ cls := "PickleHouse$Holder", name := "<init>", desc := "()V" } : Jvm.MethodName) "PickleHouse") ∈ lw_tbl := lw_at lw_m5 147 rfl
theorem q1169 : (Jvm.Cond.laysFinal "PickleHouse$Jar" "PickleHouse$Holder" "grams" "[I") ∈ lw_all := lw_g (lw_at lw_m5 148 rfl) rfl
theorem q1170 : (Jvm.Cond.superclass "PickleHouse$Jar" "PickleHouse$Holder") ∈ lw_all := lw_g (lw_at lw_m5 149 rfl) rfl
theorem q1223 : (Jvm.Cond.sameMethod "PickleHouse$Jar" "PickleHouse$Holder" "all" "()I") ∈ lw_all := lw_g (lw_at lw_m5 202 rfl) rfl
theorem q1224 : (Jvm.Cond.selects "PickleHouse$Jar" ({ cls := "PickleHouse$Jar", name := "all", desc := "()I" } : Jvm.MethodName) ({ cls := "PickleHouse$Holder", name := "all", desc := "()I" } : Jvm.MethodName)) ∈ lw_all := lw_g (lw_at lw_m5 203 rfl) rfl
theorem q1240 : (Jvm.Cond.selects "PickleHouse$Jar" ({ cls := "java/lang/Object", name := "equals", desc := "(Ljava/lang/Object;)Z" } : Jvm.MethodName) ({ cls := "java/lang/Object", name := "equals", desc := "(Ljava/lang/Object;)Z" } : Jvm.MethodName)) ∈ lw_all := lw_g (lw_at lw_m5 219 rfl) rfl
theorem q1708 : (Jvm.Cond.selects "PickleHouse$Jar" ({ cls := "PickleHouse$Holder", name := "all", desc := "()I" } : Jvm.MethodName) ({ cls := "PickleHouse$Holder", name := "all", desc := "()I" } : Jvm.MethodName)) ∈ lw_all := lw_g (lw_at lw_m7 207 rfl) rfl
theorem q1734 : (Jvm.Cond.castable "PickleHouse$Jar" "java/lang/Object") ∈ lw_tbl := lw_at lw_m7 233 rfl
theorem in_X18 : ∀ w ∈ wsX180, w ∈ lw_all := lw_in wsX180 [1169] (by decide +kernel) (by decide +kernel)
theorem q63 : (Jvm.Cond.initialized "java/util/AbstractCollection") ∈ lw_all := lw_g (lw_at lw_m1 2 rfl) rfl
theorem q118 : (Jvm.Cond.instanceMethod ({ cls := "java/util/AbstractCollection", name := "<init>", desc := "()V" } : Jvm.MethodName)) ∈ lw_all := lw_g (lw_at lw_m1 57 rfl) rfl
theorem q119 : (Jvm.Cond.code ({ cls := "java/util/AbstractCollection", name := "<init>", desc := "()V" } : Jvm.MethodName) prog_41_method_1_code (1 : Nat) (Option.none : Option Jvm.ClassFile.FieldType)) ∈ lw_all := lw_g (lw_at lw_m1 58 rfl) rfl
theorem q120 : (Jvm.Cond.methodLink "java/util/AbstractCollection" (1 : Nat) ({ cls := "java/lang/Object", name := "<init>", desc := "()V" } : Jvm.MethodName)) ∈ lw_all := lw_g (lw_at lw_m1 59 rfl) rfl
theorem q64 : (Jvm.Cond.initialized "java/util/AbstractList") ∈ lw_all := lw_g (lw_at lw_m1 3 rfl) rfl
theorem q115 : (Jvm.Cond.instanceMethod ({ cls := "java/util/AbstractList", name := "<init>", desc := "()V" } : Jvm.MethodName)) ∈ lw_all := lw_g (lw_at lw_m1 54 rfl) rfl
theorem q116 : (Jvm.Cond.code ({ cls := "java/util/AbstractList", name := "<init>", desc := "()V" } : Jvm.MethodName) prog_42_method_1_code (1 : Nat) (Option.none : Option Jvm.ClassFile.FieldType)) ∈ lw_all := lw_g (lw_at lw_m1 55 rfl) rfl
theorem q117 : (Jvm.Cond.methodLink "java/util/AbstractList" (1 : Nat) ({ cls := "java/util/AbstractCollection", name := "<init>", desc := "()V" } : Jvm.MethodName)) ∈ lw_all := lw_g (lw_at lw_m1 56 rfl) rfl
theorem q125 : (Jvm.Cond.fieldLink "java/util/AbstractList" (7 : Nat) "java/util/AbstractList" "modCount" "I") ∈ lw_all := lw_g (lw_at lw_m1 64 rfl) rfl
theorem q133 : (Jvm.Cond.soleField "java/util/AbstractList" "modCount") ∈ lw_all := lw_g (lw_at lw_m1 72 rfl) rfl
theorem q65 : (Jvm.Cond.initialized "java/util/ArrayList") ∈ lw_all := lw_g (lw_at lw_m1 4 rfl) rfl
theorem q110 : (Jvm.Cond.instantiable "java/util/ArrayList" (3 : Nat)) ∈ lw_all := lw_g (lw_at lw_m1 49 rfl) rfl
theorem q112 : (Jvm.Cond.instanceMethod ({ cls := "java/util/ArrayList", name := "<init>", desc := "()V" } : Jvm.MethodName)) ∈ lw_all := lw_g (lw_at lw_m1 51 rfl) rfl
theorem q113 : (Jvm.Cond.code ({ cls := "java/util/ArrayList", name := "<init>", desc := "()V" } : Jvm.MethodName) prog_43_method_2_code (1 : Nat) (Option.none : Option Jvm.ClassFile.FieldType)) ∈ lw_all := lw_g (lw_at lw_m1 52 rfl) rfl
theorem q114 : (Jvm.Cond.methodLink "java/util/ArrayList" (1 : Nat) ({ cls := "java/util/AbstractList", name := "<init>", desc := "()V" } : Jvm.MethodName)) ∈ lw_all := lw_g (lw_at lw_m1 53 rfl) rfl
theorem q121 : (Jvm.Cond.fieldLink "java/util/ArrayList" (39 : Nat) "java/util/ArrayList" "DEFAULTCAPACITY_EMPTY_ELEMENTDATA" "[Ljava/lang/Object;") ∈ lw_all := lw_g (lw_at lw_m1 60 rfl) rfl
theorem q122 : (Jvm.Cond.laysStatic "java/util/ArrayList" "DEFAULTCAPACITY_EMPTY_ELEMENTDATA" "[Ljava/lang/Object;") ∈ lw_tbl := lw_at lw_m1 61 rfl
theorem q123 : (Jvm.Cond.fieldLink "java/util/ArrayList" (9 : Nat) "java/util/ArrayList" "elementData" "[Ljava/lang/Object;") ∈ lw_all := lw_g (lw_at lw_m1 62 rfl) rfl
theorem q124 : (Jvm.Cond.fieldLink "java/util/ArrayList" (48 : Nat) "java/util/ArrayList" "size" "I") ∈ lw_all := lw_g (lw_at lw_m1 63 rfl) rfl
theorem q126 : (Jvm.Cond.fieldLink "java/util/ArrayList" (63 : Nat) "java/util/ArrayList" "modCount" "I") ∈ lw_all := lw_g (lw_at lw_m1 65 rfl) rfl
theorem q127 : (Jvm.Cond.sameField "java/util/ArrayList" "java/util/AbstractList" "modCount" "I") ∈ lw_all := lw_g (lw_at lw_m1 66 rfl) rfl
theorem q128 : (Jvm.Cond.lays "java/util/ArrayList" "java/util/ArrayList" "elementData" "[Ljava/lang/Object;") ∈ lw_all := lw_g (lw_at lw_m1 67 rfl) rfl
theorem q129 : (Jvm.Cond.soleField "java/util/ArrayList" "elementData") ∈ lw_all := lw_g (lw_at lw_m1 68 rfl) rfl
theorem q130 : (Jvm.Cond.lays "java/util/ArrayList" "java/util/ArrayList" "size" "I") ∈ lw_all := lw_g (lw_at lw_m1 69 rfl) rfl
theorem q131 : (Jvm.Cond.soleField "java/util/ArrayList" "size") ∈ lw_all := lw_g (lw_at lw_m1 70 rfl) rfl
theorem q132 : (Jvm.Cond.lays "java/util/ArrayList" "java/util/AbstractList" "modCount" "I") ∈ lw_all := lw_g (lw_at lw_m1 71 rfl) rfl
theorem q134 : (Jvm.Cond.superclass "java/util/ArrayList" "java/util/AbstractList") ∈ lw_all := lw_g (lw_at lw_m1 73 rfl) rfl
theorem q285 : (Jvm.Cond.instanceMethod ({ cls := "java/util/ArrayList", name := "size", desc := "()I" } : Jvm.MethodName)) ∈ lw_all := lw_g (lw_at lw_m1 224 rfl) rfl
theorem q286 : (Jvm.Cond.selects "java/util/ArrayList" ({ cls := "java/util/ArrayList", name := "size", desc := "()I" } : Jvm.MethodName) ({ cls := "java/util/ArrayList", name := "size", desc := "()I" } : Jvm.MethodName)) ∈ lw_all := lw_g (lw_at lw_m1 225 rfl) rfl
theorem q287 : (Jvm.Cond.code ({ cls := "java/util/ArrayList", name := "size", desc := "()I" } : Jvm.MethodName) prog_43_method_8_code (1 : Nat) (Option.some Jvm.ClassFile.FieldType.int)) ∈ lw_all := lw_g (lw_at lw_m1 226 rfl) rfl
theorem q293 : (Jvm.Cond.instanceMethod ({ cls := "java/util/ArrayList", name := "get", desc := "(I)Ljava/lang/Object;" } : Jvm.MethodName)) ∈ lw_all := lw_g (lw_at lw_m1 232 rfl) rfl
theorem q294 : (Jvm.Cond.selects "java/util/ArrayList" ({ cls := "java/util/ArrayList", name := "get", desc := "(I)Ljava/lang/Object;" } : Jvm.MethodName) ({ cls := "java/util/ArrayList", name := "get", desc := "(I)Ljava/lang/Object;" } : Jvm.MethodName)) ∈ lw_all := lw_g (lw_at lw_m1 233 rfl) rfl
theorem q295 : (Jvm.Cond.code ({ cls := "java/util/ArrayList", name := "get", desc := "(I)Ljava/lang/Object;" } : Jvm.MethodName) prog_43_method_20_code (2 : Nat) (Option.some (Jvm.ClassFile.FieldType.object "java/lang/Object"))) ∈ lw_all := lw_g (lw_at lw_m1 234 rfl) rfl
theorem q296 : (Jvm.Cond.methodLink "java/util/ArrayList" (118 : Nat) ({ cls := "java/util/Objects", name := "checkIndex", desc := "(II)I" } : Jvm.MethodName)) ∈ lw_all := lw_g (lw_at lw_m1 235 rfl) rfl
theorem q300 : (Jvm.Cond.methodLink "java/util/ArrayList" (123 : Nat) ({ cls := "java/util/ArrayList", name := "elementData", desc := "(I)Ljava/lang/Object;" } : Jvm.MethodName)) ∈ lw_all := lw_g (lw_at lw_m1 239 rfl) rfl
theorem q301 : (Jvm.Cond.instanceMethod ({ cls := "java/util/ArrayList", name := "elementData", desc := "(I)Ljava/lang/Object;" } : Jvm.MethodName)) ∈ lw_all := lw_g (lw_at lw_m2 0 rfl) rfl
theorem q302 : (Jvm.Cond.selects "java/util/ArrayList" ({ cls := "java/util/ArrayList", name := "elementData", desc := "(I)Ljava/lang/Object;" } : Jvm.MethodName) ({ cls := "java/util/ArrayList", name := "elementData", desc := "(I)Ljava/lang/Object;" } : Jvm.MethodName)) ∈ lw_all := lw_g (lw_at lw_m2 1 rfl) rfl
theorem q303 : (Jvm.Cond.code ({ cls := "java/util/ArrayList", name := "elementData", desc := "(I)Ljava/lang/Object;" } : Jvm.MethodName) prog_43_method_18_code (2 : Nat) (Option.some (Jvm.ClassFile.FieldType.object "java/lang/Object"))) ∈ lw_all := lw_g (lw_at lw_m2 2 rfl) rfl
theorem q366 : (Jvm.Cond.instanceMethod ({ cls := "java/util/ArrayList", name := "add", desc := "(Ljava/lang/Object;)Z" } : Jvm.MethodName)) ∈ lw_all := lw_g (lw_at lw_m2 65 rfl) rfl
theorem q367 : (Jvm.Cond.selects "java/util/ArrayList" ({ cls := "java/util/ArrayList", name := "add", desc := "(Ljava/lang/Object;)Z" } : Jvm.MethodName) ({ cls := "java/util/ArrayList", name := "add", desc := "(Ljava/lang/Object;)Z" } : Jvm.MethodName)) ∈ lw_all := lw_g (lw_at lw_m2 66 rfl) rfl
theorem q368 : (Jvm.Cond.code ({ cls := "java/util/ArrayList", name := "add", desc := "(Ljava/lang/Object;)Z" } : Jvm.MethodName) prog_43_method_25_code (2 : Nat) (Option.some Jvm.ClassFile.FieldType.boolean)) ∈ lw_all := lw_g (lw_at lw_m2 67 rfl) rfl
theorem q369 : (Jvm.Cond.methodLink "java/util/ArrayList" (131 : Nat) ({ cls := "java/util/ArrayList", name := "add", desc := "(Ljava/lang/Object;[Ljava/lang/Object;I)V" } : Jvm.MethodName)) ∈ lw_all := lw_g (lw_at lw_m2 68 rfl) rfl
theorem q370 : (Jvm.Cond.privateMethod ({ cls := "java/util/ArrayList", name := "add", desc := "(Ljava/lang/Object;[Ljava/lang/Object;I)V" } : Jvm.MethodName)) ∈ lw_tbl := lw_at lw_m2 69 rfl
theorem q371 : (Jvm.Cond.instanceMethod ({ cls := "java/util/ArrayList", name := "add", desc := "(Ljava/lang/Object;[Ljava/lang/Object;I)V" } : Jvm.MethodName)) ∈ lw_all := lw_g (lw_at lw_m2 70 rfl) rfl
theorem q372 : (Jvm.Cond.code ({ cls := "java/util/ArrayList", name := "add", desc := "(Ljava/lang/Object;[Ljava/lang/Object;I)V" } : Jvm.MethodName) prog_43_method_24_code (4 : Nat) (Option.none : Option Jvm.ClassFile.FieldType)) ∈ lw_all := lw_g (lw_at lw_m2 71 rfl) rfl
theorem q373 : (Jvm.Cond.methodLink "java/util/ArrayList" (129 : Nat) ({ cls := "java/util/ArrayList", name := "grow", desc := "()[Ljava/lang/Object;" } : Jvm.MethodName)) ∈ lw_all := lw_g (lw_at lw_m2 72 rfl) rfl
theorem q374 : (Jvm.Cond.privateMethod ({ cls := "java/util/ArrayList", name := "grow", desc := "()[Ljava/lang/Object;" } : Jvm.MethodName)) ∈ lw_tbl := lw_at lw_m2 73 rfl
theorem q375 : (Jvm.Cond.instanceMethod ({ cls := "java/util/ArrayList", name := "grow", desc := "()[Ljava/lang/Object;" } : Jvm.MethodName)) ∈ lw_all := lw_g (lw_at lw_m2 74 rfl) rfl
theorem q376 : (Jvm.Cond.code ({ cls := "java/util/ArrayList", name := "grow", desc := "()[Ljava/lang/Object;" } : Jvm.MethodName) prog_43_method_7_code (1 : Nat) (Option.some (Jvm.ClassFile.FieldType.array (Jvm.ClassFile.FieldType.object "java/lang/Object")))) ∈ lw_all := lw_g (lw_at lw_m2 75 rfl) rfl
theorem q377 : (Jvm.Cond.methodLink "java/util/ArrayList" (69 : Nat) ({ cls := "java/util/ArrayList", name := "grow", desc := "(I)[Ljava/lang/Object;" } : Jvm.MethodName)) ∈ lw_all := lw_g (lw_at lw_m2 76 rfl) rfl
theorem q378 : (Jvm.Cond.privateMethod ({ cls := "java/util/ArrayList", name := "grow", desc := "(I)[Ljava/lang/Object;" } : Jvm.MethodName)) ∈ lw_tbl := lw_at lw_m2 77 rfl
theorem q379 : (Jvm.Cond.instanceMethod ({ cls := "java/util/ArrayList", name := "grow", desc := "(I)[Ljava/lang/Object;" } : Jvm.MethodName)) ∈ lw_all := lw_g (lw_at lw_m2 78 rfl) rfl
theorem q380 : (Jvm.Cond.code ({ cls := "java/util/ArrayList", name := "grow", desc := "(I)[Ljava/lang/Object;" } : Jvm.MethodName) prog_43_method_6_code (4 : Nat) (Option.some (Jvm.ClassFile.FieldType.array (Jvm.ClassFile.FieldType.object "java/lang/Object")))) ∈ lw_all := lw_g (lw_at lw_m2 79 rfl) rfl
theorem q381 : (Jvm.Cond.methodLink "java/util/ArrayList" (73 : Nat) ({ cls := "jdk/internal/util/ArraysSupport", name := "newLength", desc := "(III)I" } : Jvm.MethodName)) ∈ lw_all := lw_g (lw_at lw_m2 80 rfl) rfl
theorem q391 : (Jvm.Cond.methodLink "java/util/ArrayList" (66 : Nat) ({ cls := "java/util/Arrays", name := "copyOf", desc := "([Ljava/lang/Object;I)[Ljava/lang/Object;" } : Jvm.MethodName)) ∈ lw_all := lw_g (lw_at lw_m2 90 rfl) rfl
theorem q415 : (Jvm.Cond.selects "java/util/ArrayList" ({ cls := "java/lang/Object", name := "getClass", desc := "()Ljava/lang/Class;" } : Jvm.MethodName) ({ cls := "java/lang/Object", name := "getClass", desc := "()Ljava/lang/Class;" } : Jvm.MethodName)) ∈ lw_all := lw_g (lw_at lw_m2 114 rfl) rfl
theorem q430 : (Jvm.Cond.methodLink "java/util/ArrayList" (79 : Nat) ({ cls := "java/lang/Math", name := "max", desc := "(II)I" } : Jvm.MethodName)) ∈ lw_all := lw_g (lw_at lw_m2 129 rfl) rfl
theorem q431 : (Jvm.Cond.classLink "java/util/ArrayList" (7 : Nat) "java/lang/Object") ∈ lw_all := lw_g (lw_at lw_m2 130 rfl) rfl
theorem q806 : (Jvm.Cond.instanceMethod ({ cls := "java/util/ArrayList", name := "<init>", desc := "(I)V" } : Jvm.MethodName)) ∈ lw_all := lw_g (lw_at lw_m4 25 rfl) rfl
theorem q807 : (Jvm.Cond.code ({ cls := "java/util/ArrayList", name := "<init>", desc := "(I)V" } : Jvm.MethodName) prog_43_method_1_code (2 : Nat) (Option.none : Option Jvm.ClassFile.FieldType)) ∈ lw_all := lw_g (lw_at lw_m4 26 rfl) rfl
theorem q808 : (Jvm.Cond.fieldLink "java/util/ArrayList" (15 : Nat) "java/util/ArrayList" "EMPTY_ELEMENTDATA" "[Ljava/lang/Object;") ∈ lw_all := lw_g (lw_at lw_m4 27 rfl) rfl
theorem q809 : (Jvm.Cond.laysStatic "java/util/ArrayList" "EMPTY_ELEMENTDATA" "[Ljava/lang/Object;") ∈ lw_tbl := lw_at lw_m4 28 rfl
theorem q1226 : (Jvm.Cond.instanceMethod ({ cls := "java/util/ArrayList", name := "indexOf", desc := "(Ljava/lang/Object;)I" } : Jvm.MethodName)) ∈ lw_all := lw_g (lw_at lw_m5 205 rfl) rfl
theorem q1227 : (Jvm.Cond.selects "java/util/ArrayList" ({ cls := "java/util/ArrayList", name := "indexOf", desc := "(Ljava/lang/Object;)I" } : Jvm.MethodName) ({ cls := "java/util/ArrayList", name := "indexOf", desc := "(Ljava/lang/Object;)I" } : Jvm.MethodName)) ∈ lw_all := lw_g (lw_at lw_m5 206 rfl) rfl
theorem q1228 : (Jvm.Cond.code ({ cls := "java/util/ArrayList", name := "indexOf", desc := "(Ljava/lang/Object;)I" } : Jvm.MethodName) prog_43_method_11_code (2 : Nat) (Option.some Jvm.ClassFile.FieldType.int)) ∈ lw_all := lw_g (lw_at lw_m5 207 rfl) rfl
theorem q1229 : (Jvm.Cond.methodLink "java/util/ArrayList" (89 : Nat) ({ cls := "java/util/ArrayList", name := "indexOfRange", desc := "(Ljava/lang/Object;II)I" } : Jvm.MethodName)) ∈ lw_all := lw_g (lw_at lw_m5 208 rfl) rfl
theorem q1230 : (Jvm.Cond.instanceMethod ({ cls := "java/util/ArrayList", name := "indexOfRange", desc := "(Ljava/lang/Object;II)I" } : Jvm.MethodName)) ∈ lw_all := lw_g (lw_at lw_m5 209 rfl) rfl
theorem q1231 : (Jvm.Cond.selects "java/util/ArrayList" ({ cls := "java/util/ArrayList", name := "indexOfRange", desc := "(Ljava/lang/Object;II)I" } : Jvm.MethodName) ({ cls := "java/util/ArrayList", name := "indexOfRange", desc := "(Ljava/lang/Object;II)I" } : Jvm.MethodName)) ∈ lw_all := lw_g (lw_at lw_m5 210 rfl) rfl
theorem q1232 : (Jvm.Cond.code ({ cls := "java/util/ArrayList", name := "indexOfRange", desc := "(Ljava/lang/Object;II)I" } : Jvm.MethodName) prog_43_method_12_code (6 : Nat) (Option.some Jvm.ClassFile.FieldType.int)) ∈ lw_all := lw_g (lw_at lw_m5 211 rfl) rfl
theorem q1234 : (Jvm.Cond.methodLink "java/util/ArrayList" (93 : Nat) ({ cls := "java/lang/Object", name := "equals", desc := "(Ljava/lang/Object;)Z" } : Jvm.MethodName)) ∈ lw_all := lw_g (lw_at lw_m5 213 rfl) rfl
theorem q1716 : (Jvm.Cond.castable "java/util/ArrayList" "java/lang/Object") ∈ lw_tbl := lw_at lw_m7 215 rfl
theorem in_J2 : ∀ w ∈ wsJ20, w ∈ lw_all := lw_in wsJ20 [132, 128, 130] (by decide +kernel) (by decide +kernel)
theorem q66 : (Jvm.Cond.initialized "java/lang/String") ∈ lw_all := lw_g (lw_at lw_m1 5 rfl) rfl
theorem q138 : (Jvm.Cond.instanceMethod ({ cls := "java/lang/String", name := "length", desc := "()I" } : Jvm.MethodName)) ∈ lw_all := lw_g (lw_at lw_m1 77 rfl) rfl
theorem q139 : (Jvm.Cond.selects "java/lang/String" ({ cls := "java/lang/String", name := "length", desc := "()I" } : Jvm.MethodName) ({ cls := "java/lang/String", name := "length", desc := "()I" } : Jvm.MethodName)) ∈ lw_all := lw_g (lw_at lw_m1 78 rfl) rfl
theorem q140 : (Jvm.Cond.code ({ cls := "java/lang/String", name := "length", desc := "()I" } : Jvm.MethodName) prog_32_method_54_code (1 : Nat) (Option.some Jvm.ClassFile.FieldType.int)) ∈ lw_all := lw_g (lw_at lw_m1 79 rfl) rfl
theorem q141 : (Jvm.Cond.methodLink "java/lang/String" (335 : Nat) ({ cls := "java/lang/String", name := "coder", desc := "()B" } : Jvm.MethodName)) ∈ lw_all := lw_g (lw_at lw_m1 80 rfl) rfl
theorem q142 : (Jvm.Cond.instanceMethod ({ cls := "java/lang/String", name := "coder", desc := "()B" } : Jvm.MethodName)) ∈ lw_all := lw_g (lw_at lw_m1 81 rfl) rfl
theorem q143 : (Jvm.Cond.selects "java/lang/String" ({ cls := "java/lang/String", name := "coder", desc := "()B" } : Jvm.MethodName) ({ cls := "java/lang/String", name := "coder", desc := "()B" } : Jvm.MethodName)) ∈ lw_all := lw_g (lw_at lw_m1 82 rfl) rfl
theorem q144 : (Jvm.Cond.code ({ cls := "java/lang/String", name := "coder", desc := "()B" } : Jvm.MethodName) prog_32_method_152_code (1 : Nat) (Option.some Jvm.ClassFile.FieldType.byte)) ∈ lw_all := lw_g (lw_at lw_m1 83 rfl) rfl
theorem q145 : (Jvm.Cond.fieldLink "java/lang/String" (38 : Nat) "java/lang/String" "COMPACT_STRINGS" "Z") ∈ lw_all := lw_g (lw_at lw_m1 84 rfl) rfl
theorem q146 : (Jvm.Cond.laysStatic "java/lang/String" "COMPACT_STRINGS" "Z") ∈ lw_tbl := lw_at lw_m1 85 rfl
theorem q148 : (Jvm.Cond.instanceMethod ({ cls := "java/lang/String", name := "charAt", desc := "(I)C" } : Jvm.MethodName)) ∈ lw_all := lw_g (lw_at lw_m1 87 rfl) rfl
theorem q149 : (Jvm.Cond.selects "java/lang/String" ({ cls := "java/lang/String", name := "charAt", desc := "(I)C" } : Jvm.MethodName) ({ cls := "java/lang/String", name := "charAt", desc := "(I)C" } : Jvm.MethodName)) ∈ lw_all := lw_g (lw_at lw_m1 88 rfl) rfl
theorem q150 : (Jvm.Cond.code ({ cls := "java/lang/String", name := "charAt", desc := "(I)C" } : Jvm.MethodName) prog_32_method_56_code (2 : Nat) (Option.some Jvm.ClassFile.FieldType.char)) ∈ lw_all := lw_g (lw_at lw_m1 89 rfl) rfl
theorem q151 : (Jvm.Cond.methodLink "java/lang/String" (492 : Nat) ({ cls := "java/lang/String", name := "isLatin1", desc := "()Z" } : Jvm.MethodName)) ∈ lw_all := lw_g (lw_at lw_m1 90 rfl) rfl
theorem q152 : (Jvm.Cond.instanceMethod ({ cls := "java/lang/String", name := "isLatin1", desc := "()Z" } : Jvm.MethodName)) ∈ lw_all := lw_g (lw_at lw_m1 91 rfl) rfl
theorem q153 : (Jvm.Cond.selects "java/lang/String" ({ cls := "java/lang/String", name := "isLatin1", desc := "()Z" } : Jvm.MethodName) ({ cls := "java/lang/String", name := "isLatin1", desc := "()Z" } : Jvm.MethodName)) ∈ lw_all := lw_g (lw_at lw_m1 92 rfl) rfl
theorem q154 : (Jvm.Cond.code ({ cls := "java/lang/String", name := "isLatin1", desc := "()Z" } : Jvm.MethodName) prog_32_method_154_code (1 : Nat) (Option.some Jvm.ClassFile.FieldType.boolean)) ∈ lw_all := lw_g (lw_at lw_m1 93 rfl) rfl
theorem q155 : (Jvm.Cond.methodLink "java/lang/String" (495 : Nat) ({ cls := "java/lang/StringLatin1", name := "charAt", desc := "([BI)C" } : Jvm.MethodName)) ∈ lw_all := lw_g (lw_at lw_m1 94 rfl) rfl
theorem q159 : (Jvm.Cond.static ({ cls := "java/lang/String", name := "checkIndex", desc := "(II)V" } : Jvm.MethodName)) ∈ lw_all := lw_g (lw_at lw_m1 98 rfl) rfl
theorem q160 : (Jvm.Cond.code ({ cls := "java/lang/String", name := "checkIndex", desc := "(II)V" } : Jvm.MethodName) prog_32_method_155_code (2 : Nat) (Option.none : Option Jvm.ClassFile.FieldType)) ∈ lw_all := lw_g (lw_at lw_m1 99 rfl) rfl
theorem q161 : (Jvm.Cond.fieldLink "java/lang/String" (1053 : Nat) "jdk/internal/util/Preconditions" "SIOOBE_FORMATTER" "Ljava/util/function/BiFunction;") ∈ lw_all := lw_g (lw_at lw_m1 100 rfl) rfl
theorem q163 : (Jvm.Cond.methodLink "java/lang/String" (1059 : Nat) ({ cls := "jdk/internal/util/Preconditions", name := "checkIndex", desc := "(IILjava/util/function/BiFunction;)I" } : Jvm.MethodName)) ∈ lw_all := lw_g (lw_at lw_m1 102 rfl) rfl
theorem q166 : (Jvm.Cond.methodLink "java/lang/String" (498 : Nat) ({ cls := "java/lang/StringUTF16", name := "charAt", desc := "([BI)C" } : Jvm.MethodName)) ∈ lw_all := lw_g (lw_at lw_m1 105 rfl) rfl
theorem q412 : (Jvm.Cond.selects "java/lang/String" ({ cls := "java/lang/Object", name := "getClass", desc := "()Ljava/lang/Class;" } : Jvm.MethodName) ({ cls := "java/lang/Object", name := "getClass", desc := "()Ljava/lang/Class;" } : Jvm.MethodName)) ∈ lw_all := lw_g (lw_at lw_m2 111 rfl) rfl
theorem q647 : (Jvm.Cond.fieldLink "java/lang/String" (1048 : Nat) "java/lang/AbstractStringBuilder" "maybeLatin1" "Z") ∈ lw_all := lw_g (lw_at lw_m3 106 rfl) rfl
theorem q707 : (Jvm.Cond.static ({ cls := "java/lang/String", name := "checkBoundsOffCount", desc := "(III)I" } : Jvm.MethodName)) ∈ lw_all := lw_g (lw_at lw_m3 166 rfl) rfl
theorem q708 : (Jvm.Cond.code ({ cls := "java/lang/String", name := "checkBoundsOffCount", desc := "(III)I" } : Jvm.MethodName) prog_32_method_157_code (3 : Nat) (Option.some Jvm.ClassFile.FieldType.int)) ∈ lw_all := lw_g (lw_at lw_m3 167 rfl) rfl
theorem q709 : (Jvm.Cond.methodLink "java/lang/String" (1065 : Nat) ({ cls := "jdk/internal/util/Preconditions", name := "checkFromIndexSize", desc := "(IIILjava/util/function/BiFunction;)I" } : Jvm.MethodName)) ∈ lw_all := lw_g (lw_at lw_m3 168 rfl) rfl
theorem q723 : (Jvm.Cond.instantiable "java/lang/String" (4 : Nat)) ∈ lw_all := lw_g (lw_at lw_m3 182 rfl) rfl
theorem q725 : (Jvm.Cond.instanceMethod ({ cls := "java/lang/String", name := "<init>", desc := "(Ljava/lang/StringBuilder;)V" } : Jvm.MethodName)) ∈ lw_all := lw_g (lw_at lw_m3 184 rfl) rfl
theorem q726 : (Jvm.Cond.code ({ cls := "java/lang/String", name := "<init>", desc := "(Ljava/lang/StringBuilder;)V" } : Jvm.MethodName) prog_32_method_53_code (2 : Nat) (Option.none : Option Jvm.ClassFile.FieldType)) ∈ lw_all := lw_g (lw_at lw_m3 185 rfl) rfl
theorem q727 : (Jvm.Cond.methodLink "java/lang/String" (489 : Nat) ({ cls := "java/lang/String", name := "<init>", desc := "(Ljava/lang/AbstractStringBuilder;Ljava/lang/Void;)V" } : Jvm.MethodName)) ∈ lw_all := lw_g (lw_at lw_m3 186 rfl) rfl
theorem q728 : (Jvm.Cond.instanceMethod ({ cls := "java/lang/String", name := "<init>", desc := "(Ljava/lang/AbstractStringBuilder;Ljava/lang/Void;)V" } : Jvm.MethodName)) ∈ lw_all := lw_g (lw_at lw_m3 187 rfl) rfl
theorem q729 : (Jvm.Cond.code ({ cls := "java/lang/String", name := "<init>", desc := "(Ljava/lang/AbstractStringBuilder;Ljava/lang/Void;)V" } : Jvm.MethodName) prog_32_method_150_code (5 : Nat) (Option.none : Option Jvm.ClassFile.FieldType)) ∈ lw_all := lw_g (lw_at lw_m3 188 rfl) rfl
theorem q730 : (Jvm.Cond.methodLink "java/lang/String" (1 : Nat) ({ cls := "java/lang/Object", name := "<init>", desc := "()V" } : Jvm.MethodName)) ∈ lw_all := lw_g (lw_at lw_m3 189 rfl) rfl
theorem q731 : (Jvm.Cond.methodLink "java/lang/String" (552 : Nat) ({ cls := "java/lang/AbstractStringBuilder", name := "getValue", desc := "()[B" } : Jvm.MethodName)) ∈ lw_all := lw_g (lw_at lw_m3 190 rfl) rfl
theorem q736 : (Jvm.Cond.methodLink "java/lang/String" (549 : Nat) ({ cls := "java/lang/AbstractStringBuilder", name := "length", desc := "()I" } : Jvm.MethodName)) ∈ lw_all := lw_g (lw_at lw_m3 195 rfl) rfl
theorem q744 : (Jvm.Cond.methodLink "java/lang/String" (1047 : Nat) ({ cls := "java/lang/AbstractStringBuilder", name := "isLatin1", desc := "()Z" } : Jvm.MethodName)) ∈ lw_all := lw_g (lw_at lw_m3 203 rfl) rfl
theorem q745 : (Jvm.Cond.methodLink "java/lang/String" (54 : Nat) ({ cls := "java/util/Arrays", name := "copyOfRange", desc := "([BII)[B" } : Jvm.MethodName)) ∈ lw_all := lw_g (lw_at lw_m3 204 rfl) rfl
theorem q754 : (Jvm.Cond.methodLink "java/lang/String" (1051 : Nat) ({ cls := "java/lang/StringUTF16", name := "compress", desc := "([BII)[B" } : Jvm.MethodName)) ∈ lw_all := lw_g (lw_at lw_m3 213 rfl) rfl
theorem q761 : (Jvm.Cond.methodLink "java/lang/String" (47 : Nat) ({ cls := "java/lang/StringUTF16", name := "coderFromArrayLen", desc := "([BI)B" } : Jvm.MethodName)) ∈ lw_all := lw_g (lw_at lw_m3 220 rfl) rfl
theorem q764 : (Jvm.Cond.fieldLink "java/lang/String" (9 : Nat) "java/lang/String" "value" "[B") ∈ lw_all := lw_g (lw_at lw_m3 223 rfl) rfl
theorem q765 : (Jvm.Cond.fieldLink "java/lang/String" (15 : Nat) "java/lang/String" "coder" "B") ∈ lw_all := lw_g (lw_at lw_m3 224 rfl) rfl
theorem q766 : (Jvm.Cond.fieldLink "java/lang/String" (19 : Nat) "java/lang/String" "hash" "I") ∈ lw_all := lw_g (lw_at lw_m3 225 rfl) rfl
theorem q767 : (Jvm.Cond.fieldLink "java/lang/String" (23 : Nat) "java/lang/String" "hashIsZero" "Z") ∈ lw_all := lw_g (lw_at lw_m3 226 rfl) rfl
theorem q768 : (Jvm.Cond.laysFinal "java/lang/String" "java/lang/String" "value" "[B") ∈ lw_all := lw_g (lw_at lw_m3 227 rfl) rfl
theorem q769 : (Jvm.Cond.soleField "java/lang/String" "value") ∈ lw_all := lw_g (lw_at lw_m3 228 rfl) rfl
theorem q770 : (Jvm.Cond.laysFinal "java/lang/String" "java/lang/String" "coder" "B") ∈ lw_all := lw_g (lw_at lw_m3 229 rfl) rfl
theorem q771 : (Jvm.Cond.soleField "java/lang/String" "coder") ∈ lw_all := lw_g (lw_at lw_m3 230 rfl) rfl
theorem q772 : (Jvm.Cond.lays "java/lang/String" "java/lang/String" "hash" "I") ∈ lw_all := lw_g (lw_at lw_m3 231 rfl) rfl
theorem q773 : (Jvm.Cond.soleField "java/lang/String" "hash") ∈ lw_all := lw_g (lw_at lw_m3 232 rfl) rfl
theorem q774 : (Jvm.Cond.lays "java/lang/String" "java/lang/String" "hashIsZero" "Z") ∈ lw_all := lw_g (lw_at lw_m3 233 rfl) rfl
theorem q775 : (Jvm.Cond.soleField "java/lang/String" "hashIsZero") ∈ lw_all := lw_g (lw_at lw_m3 234 rfl) rfl
theorem q776 : (Jvm.Cond.superclass "java/lang/String" "java/lang/Object") ∈ lw_all := lw_g (lw_at lw_m3 235 rfl) rfl
theorem q816 : (Jvm.Cond.instanceMethod ({ cls := "java/lang/String", name := "equals", desc := "(Ljava/lang/Object;)Z" } : Jvm.MethodName)) ∈ lw_all := lw_g (lw_at lw_m4 35 rfl) rfl
theorem q817 : (Jvm.Cond.selects "java/lang/String" ({ cls := "java/lang/String", name := "equals", desc := "(Ljava/lang/Object;)Z" } : Jvm.MethodName) ({ cls := "java/lang/String", name := "equals", desc := "(Ljava/lang/Object;)Z" } : Jvm.MethodName)) ∈ lw_all := lw_g (lw_at lw_m4 36 rfl) rfl
theorem q818 : (Jvm.Cond.code ({ cls := "java/lang/String", name := "equals", desc := "(Ljava/lang/Object;)Z" } : Jvm.MethodName) prog_32_method_66_code (3 : Nat) (Option.some Jvm.ClassFile.FieldType.boolean)) ∈ lw_all := lw_g (lw_at lw_m4 37 rfl) rfl
theorem q819 : (Jvm.Cond.classLink "java/lang/String" (10 : Nat) "java/lang/String") ∈ lw_all := lw_g (lw_at lw_m4 38 rfl) rfl
theorem q820 : (Jvm.Cond.methodLink "java/lang/String" (541 : Nat) ({ cls := "java/lang/StringLatin1", name := "equals", desc := "([B[B)Z" } : Jvm.MethodName)) ∈ lw_all := lw_g (lw_at lw_m4 39 rfl) rfl
theorem q847 : (Jvm.Cond.static ({ cls := "java/lang/String", name := "checkBoundsBeginEnd", desc := "(III)V" } : Jvm.MethodName)) ∈ lw_all := lw_g (lw_at lw_m4 66 rfl) rfl
theorem q848 : (Jvm.Cond.code ({ cls := "java/lang/String", name := "checkBoundsBeginEnd", desc := "(III)V" } : Jvm.MethodName) prog_32_method_158_code (3 : Nat) (Option.none : Option Jvm.ClassFile.FieldType)) ∈ lw_all := lw_g (lw_at lw_m4 67 rfl) rfl
theorem q849 : (Jvm.Cond.methodLink "java/lang/String" (1062 : Nat) ({ cls := "jdk/internal/util/Preconditions", name := "checkFromToIndex", desc := "(IIILjava/util/function/BiFunction;)I" } : Jvm.MethodName)) ∈ lw_all := lw_g (lw_at lw_m4 68 rfl) rfl
theorem q863 : (Jvm.Cond.instanceMethod ({ cls := "java/lang/String", name := "getBytes", desc := "([BIB)V" } : Jvm.MethodName)) ∈ lw_all := lw_g (lw_at lw_m4 82 rfl) rfl
theorem q864 : (Jvm.Cond.selects "java/lang/String" ({ cls := "java/lang/String", name := "getBytes", desc := "([BIB)V" } : Jvm.MethodName) ({ cls := "java/lang/String", name := "getBytes", desc := "([BIB)V" } : Jvm.MethodName)) ∈ lw_all := lw_g (lw_at lw_m4 83 rfl) rfl
theorem q865 : (Jvm.Cond.code ({ cls := "java/lang/String", name := "getBytes", desc := "([BIB)V" } : Jvm.MethodName) prog_32_method_147_code (4 : Nat) (Option.none : Option Jvm.ClassFile.FieldType)) ∈ lw_all := lw_g (lw_at lw_m4 84 rfl) rfl
theorem q866 : (Jvm.Cond.methodLink "java/lang/String" (212 : Nat) ({ cls := "java/lang/System", name := "arraycopy", desc := "(Ljava/lang/Object;ILjava/lang/Object;II)V" } : Jvm.MethodName)) ∈ lw_all := lw_g (lw_at lw_m4 85 rfl) rfl
theorem q867 : (Jvm.Cond.methodLink "java/lang/String" (106 : Nat) ({ cls := "java/lang/StringLatin1", name := "inflate", desc := "([BI[BII)V" } : Jvm.MethodName)) ∈ lw_all := lw_g (lw_at lw_m4 86 rfl) rfl
theorem q869 : (Jvm.Cond.instanceMethod ({ cls := "java/lang/String", name := "indexOf", desc := "(Ljava/lang/String;)I" } : Jvm.MethodName)) ∈ lw_all := lw_g (lw_at lw_m4 88 rfl) rfl
theorem q870 : (Jvm.Cond.selects "java/lang/String" ({ cls := "java/lang/String", name := "indexOf", desc := "(Ljava/lang/String;)I" } : Jvm.MethodName) ({ cls := "java/lang/String", name := "indexOf", desc := "(Ljava/lang/String;)I" } : Jvm.MethodName)) ∈ lw_all := lw_g (lw_at lw_m4 89 rfl) rfl
theorem q871 : (Jvm.Cond.code ({ cls := "java/lang/String", name := "indexOf", desc := "(Ljava/lang/String;)I" } : Jvm.MethodName) prog_32_method_84_code (3 : Nat) (Option.some Jvm.ClassFile.FieldType.int)) ∈ lw_all := lw_g (lw_at lw_m4 90 rfl) rfl
theorem q872 : (Jvm.Cond.methodLink "java/lang/String" (647 : Nat) ({ cls := "java/lang/StringLatin1", name := "indexOf", desc := "([B[B)I" } : Jvm.MethodName)) ∈ lw_all := lw_g (lw_at lw_m4 91 rfl) rfl
theorem q878 : (Jvm.Cond.methodLink "java/lang/String" (649 : Nat) ({ cls := "java/lang/StringUTF16", name := "indexOf", desc := "([B[B)I" } : Jvm.MethodName)) ∈ lw_all := lw_g (lw_at lw_m4 97 rfl) rfl
theorem q884 : (Jvm.Cond.methodLink "java/lang/String" (650 : Nat) ({ cls := "java/lang/StringUTF16", name := "indexOfLatin1", desc := "([B[B)I" } : Jvm.MethodName)) ∈ lw_all := lw_g (lw_at lw_m4 103 rfl) rfl
theorem q1007 : (Jvm.Cond.instanceMethod ({ cls := "java/lang/String", name := "hashCode", desc := "()I" } : Jvm.MethodName)) ∈ lw_all := lw_g (lw_at lw_m4 226 rfl) rfl
theorem q1008 : (Jvm.Cond.selects "java/lang/String" ({ cls := "java/lang/String", name := "hashCode", desc := "()I" } : Jvm.MethodName) ({ cls := "java/lang/String", name := "hashCode", desc := "()I" } : Jvm.MethodName)) ∈ lw_all := lw_g (lw_at lw_m4 227 rfl) rfl
theorem q1009 : (Jvm.Cond.code ({ cls := "java/lang/String", name := "hashCode", desc := "()I" } : Jvm.MethodName) prog_32_method_78_code (2 : Nat) (Option.some Jvm.ClassFile.FieldType.int)) ∈ lw_all := lw_g (lw_at lw_m4 228 rfl) rfl
theorem q1010 : (Jvm.Cond.methodLink "java/lang/String" (628 : Nat) ({ cls := "java/lang/StringLatin1", name := "hashCode", desc := "([B)I" } : Jvm.MethodName)) ∈ lw_all := lw_g (lw_at lw_m4 229 rfl) rfl
theorem q1051 : (Jvm.Cond.methodLink "java/lang/String" (632 : Nat) ({ cls := "java/lang/StringUTF16", name := "hashCode", desc := "([B)I" } : Jvm.MethodName)) ∈ lw_all := lw_g (lw_at lw_m5 30 rfl) rfl
theorem q1251 : (Jvm.Cond.selects "java/lang/String" ({ cls := "java/lang/Object", name := "equals", desc := "(Ljava/lang/Object;)Z" } : Jvm.MethodName) ({ cls := "java/lang/String", name := "equals", desc := "(Ljava/lang/Object;)Z" } : Jvm.MethodName)) ∈ lw_all := lw_g (lw_at lw_m5 230 rfl) rfl
theorem q1724 : (Jvm.Cond.castable "java/lang/String" "java/lang/Object") ∈ lw_tbl := lw_at lw_m7 223 rfl
theorem in_J3 : ∀ w ∈ wsJ30, w ∈ lw_all := lw_in wsJ30 [768, 770, 772, 774] (by decide +kernel) (by decide +kernel)
theorem q67 : (Jvm.Cond.initialized "java/lang/StringLatin1") ∈ lw_all := lw_g (lw_at lw_m1 6 rfl) rfl
theorem q156 : (Jvm.Cond.static ({ cls := "java/lang/StringLatin1", name := "charAt", desc := "([BI)C" } : Jvm.MethodName)) ∈ lw_all := lw_g (lw_at lw_m1 95 rfl) rfl
theorem q157 : (Jvm.Cond.code ({ cls := "java/lang/StringLatin1", name := "charAt", desc := "([BI)C" } : Jvm.MethodName) prog_34_method_2_code (2 : Nat) (Option.some Jvm.ClassFile.FieldType.char)) ∈ lw_all := lw_g (lw_at lw_m1 96 rfl) rfl
theorem q158 : (Jvm.Cond.methodLink "java/lang/StringLatin1" (9 : Nat) ({ cls := "java/lang/String", name := "checkIndex", desc := "(II)V" } : Jvm.MethodName)) ∈ lw_all := lw_g (lw_at lw_m1 97 rfl) rfl
theorem q691 : (Jvm.Cond.static ({ cls := "java/lang/StringLatin1", name := "canEncode", desc := "(C)Z" } : Jvm.MethodName)) ∈ lw_all := lw_g (lw_at lw_m3 150 rfl) rfl
theorem q692 : (Jvm.Cond.code ({ cls := "java/lang/StringLatin1", name := "canEncode", desc := "(C)Z" } : Jvm.MethodName) prog_34_method_3_code (1 : Nat) (Option.some Jvm.ClassFile.FieldType.boolean)) ∈ lw_all := lw_g (lw_at lw_m3 151 rfl) rfl
theorem q698 : (Jvm.Cond.static ({ cls := "java/lang/StringLatin1", name := "inflate", desc := "([BI[BII)V" } : Jvm.MethodName)) ∈ lw_all := lw_g (lw_at lw_m3 157 rfl) rfl
theorem q699 : (Jvm.Cond.code ({ cls := "java/lang/StringLatin1", name := "inflate", desc := "([BI[BII)V" } : Jvm.MethodName) prog_34_method_50_code (5 : Nat) (Option.none : Option Jvm.ClassFile.FieldType)) ∈ lw_all := lw_g (lw_at lw_m3 158 rfl) rfl
theorem q700 : (Jvm.Cond.methodLink "java/lang/StringLatin1" (240 : Nat) ({ cls := "java/lang/StringUTF16", name := "inflate", desc := "([BI[BII)V" } : Jvm.MethodName)) ∈ lw_all := lw_g (lw_at lw_m3 159 rfl) rfl
theorem q821 : (Jvm.Cond.static ({ cls := "java/lang/StringLatin1", name := "equals", desc := "([B[B)Z" } : Jvm.MethodName)) ∈ lw_all := lw_g (lw_at lw_m4 40 rfl) rfl
theorem q822 : (Jvm.Cond.code ({ cls := "java/lang/StringLatin1", name := "equals", desc := "([B[B)Z" } : Jvm.MethodName) prog_34_method_13_code (3 : Nat) (Option.some Jvm.ClassFile.FieldType.boolean)) ∈ lw_all := lw_g (lw_at lw_m4 41 rfl) rfl
theorem q873 : (Jvm.Cond.static ({ cls := "java/lang/StringLatin1", name := "indexOf", desc := "([B[B)I" } : Jvm.MethodName)) ∈ lw_all := lw_g (lw_at lw_m4 92 rfl) rfl
theorem q874 : (Jvm.Cond.code ({ cls := "java/lang/StringLatin1", name := "indexOf", desc := "([B[B)I" } : Jvm.MethodName) prog_34_method_24_code (2 : Nat) (Option.some Jvm.ClassFile.FieldType.int)) ∈ lw_all := lw_g (lw_at lw_m4 93 rfl) rfl
theorem q875 : (Jvm.Cond.methodLink "java/lang/StringLatin1" (99 : Nat) ({ cls := "java/lang/StringLatin1", name := "indexOf", desc := "([BI[BII)I" } : Jvm.MethodName)) ∈ lw_all := lw_g (lw_at lw_m4 94 rfl) rfl
theorem q876 : (Jvm.Cond.static ({ cls := "java/lang/StringLatin1", name := "indexOf", desc := "([BI[BII)I" } : Jvm.MethodName)) ∈ lw_all := lw_g (lw_at lw_m4 95 rfl) rfl
theorem q877 : (Jvm.Cond.code ({ cls := "java/lang/StringLatin1", name := "indexOf", desc := "([BI[BII)I" } : Jvm.MethodName) prog_34_method_25_code (11 : Nat) (Option.some Jvm.ClassFile.FieldType.int)) ∈ lw_all := lw_g (lw_at lw_m4 96 rfl) rfl
theorem q1011 : (Jvm.Cond.static ({ cls := "java/lang/StringLatin1", name := "hashCode", desc := "([B)I" } : Jvm.MethodName)) ∈ lw_all := lw_g (lw_at lw_m4 230 rfl) rfl
theorem q1012 : (Jvm.Cond.code ({ cls := "java/lang/StringLatin1", name := "hashCode", desc := "([B)I" } : Jvm.MethodName) prog_34_method_21_code (1 : Nat) (Option.some Jvm.ClassFile.FieldType.int)) ∈ lw_all := lw_g (lw_at lw_m4 231 rfl) rfl
theorem q1013 : (Jvm.Cond.methodLink "java/lang/StringLatin1" (84 : Nat) ({ cls := "jdk/internal/util/ArraysSupport", name := "vectorizedHashCode", desc := "(Ljava/lang/Object;IIII)I" } : Jvm.MethodName)) ∈ lw_all := lw_g (lw_at lw_m4 232 rfl) rfl
theorem q68 : (Jvm.Cond.initialized "jdk/internal/util/Preconditions") ∈ lw_all := lw_g (lw_at lw_m1 7 rfl) rfl
theorem q162 : (Jvm.Cond.laysStatic "jdk/internal/util/Preconditions" "SIOOBE_FORMATTER" "Ljava/util/function/BiFunction;") ∈ lw_tbl := lw_at lw_m1 101 rfl
theorem q164 : (Jvm.Cond.static ({ cls := "jdk/internal/util/Preconditions", name := "checkIndex", desc := "(IILjava/util/function/BiFunction;)I" } : Jvm.MethodName)) ∈ lw_all := lw_g (lw_at lw_m1 103 rfl) rfl
theorem q165 : (Jvm.Cond.code ({ cls := "jdk/internal/util/Preconditions", name := "checkIndex", desc := "(IILjava/util/function/BiFunction;)I" } : Jvm.MethodName) prog_53_method_11_code (3 : Nat) (Option.some Jvm.ClassFile.FieldType.int)) ∈ lw_all := lw_g (lw_at lw_m1 104 rfl) rfl
theorem q710 : (Jvm.Cond.static ({ cls := "jdk/internal/util/Preconditions", name := "checkFromIndexSize", desc := "(IIILjava/util/function/BiFunction;)I" } : Jvm.MethodName)) ∈ lw_all := lw_g (lw_at lw_m3 169 rfl) rfl
theorem q711 : (Jvm.Cond.code ({ cls := "jdk/internal/util/Preconditions", name := "checkFromIndexSize", desc := "(IIILjava/util/function/BiFunction;)I" } : Jvm.MethodName) prog_53_method_13_code (4 : Nat) (Option.some Jvm.ClassFile.FieldType.int)) ∈ lw_all := lw_g (lw_at lw_m3 170 rfl) rfl
theorem q850 : (Jvm.Cond.static ({ cls := "jdk/internal/util/Preconditions", name := "checkFromToIndex", desc := "(IIILjava/util/function/BiFunction;)I" } : Jvm.MethodName)) ∈ lw_all := lw_g (lw_at lw_m4 69 rfl) rfl
theorem q851 : (Jvm.Cond.code ({ cls := "jdk/internal/util/Preconditions", name := "checkFromToIndex", desc := "(IIILjava/util/function/BiFunction;)I" } : Jvm.MethodName) prog_53_method_12_code (4 : Nat) (Option.some Jvm.ClassFile.FieldType.int)) ∈ lw_all := lw_g (lw_at lw_m4 70 rfl) rfl
theorem q69 : (Jvm.Cond.initialized "java/lang/StringUTF16") ∈ lw_all := lw_g (lw_at lw_m1 8 rfl) rfl
theorem q167 : (Jvm.Cond.static ({ cls := "java/lang/StringUTF16", name := "charAt", desc := "([BI)C" } : Jvm.MethodName)) ∈ lw_all := lw_g (lw_at lw_m1 106 rfl) rfl
theorem q168 : (Jvm.Cond.code ({ cls := "java/lang/StringUTF16", name := "charAt", desc := "([BI)C" } : Jvm.MethodName) prog_35_method_83_code (2 : Nat) (Option.some Jvm.ClassFile.FieldType.char)) ∈ lw_all := lw_g (lw_at lw_m1 107 rfl) rfl
theorem q169 : (Jvm.Cond.methodLink "java/lang/StringUTF16" (67 : Nat) ({ cls := "java/lang/StringUTF16", name := "checkIndex", desc := "(I[B)V" } : Jvm.MethodName)) ∈ lw_all := lw_g (lw_at lw_m1 108 rfl) rfl
theorem q170 : (Jvm.Cond.static ({ cls := "java/lang/StringUTF16", name := "checkIndex", desc := "(I[B)V" } : Jvm.MethodName)) ∈ lw_all := lw_g (lw_at lw_m1 109 rfl) rfl
theorem q171 : (Jvm.Cond.code ({ cls := "java/lang/StringUTF16", name := "checkIndex", desc := "(I[B)V" } : Jvm.MethodName) prog_35_method_91_code (2 : Nat) (Option.none : Option Jvm.ClassFile.FieldType)) ∈ lw_all := lw_g (lw_at lw_m1 110 rfl) rfl
theorem q172 : (Jvm.Cond.methodLink "java/lang/StringUTF16" (48 : Nat) ({ cls := "java/lang/StringUTF16", name := "length", desc := "([B)I" } : Jvm.MethodName)) ∈ lw_all := lw_g (lw_at lw_m1 111 rfl) rfl
theorem q173 : (Jvm.Cond.static ({ cls := "java/lang/StringUTF16", name := "length", desc := "([B)I" } : Jvm.MethodName)) ∈ lw_all := lw_g (lw_at lw_m1 112 rfl) rfl
theorem q174 : (Jvm.Cond.code ({ cls := "java/lang/StringUTF16", name := "length", desc := "([B)I" } : Jvm.MethodName) prog_35_method_6_code (1 : Nat) (Option.some Jvm.ClassFile.FieldType.int)) ∈ lw_all := lw_g (lw_at lw_m1 113 rfl) rfl
theorem q175 : (Jvm.Cond.methodLink "java/lang/StringUTF16" (414 : Nat) ({ cls := "java/lang/String", name := "checkIndex", desc := "(II)V" } : Jvm.MethodName)) ∈ lw_all := lw_g (lw_at lw_m1 114 rfl) rfl
theorem q176 : (Jvm.Cond.methodLink "java/lang/StringUTF16" (71 : Nat) ({ cls := "java/lang/StringUTF16", name := "getChar", desc := "([BI)C" } : Jvm.MethodName)) ∈ lw_all := lw_g (lw_at lw_m1 115 rfl) rfl
theorem q177 : (Jvm.Cond.static ({ cls := "java/lang/StringUTF16", name := "getChar", desc := "([BI)C" } : Jvm.MethodName)) ∈ lw_all := lw_g (lw_at lw_m1 116 rfl) rfl
theorem q178 : (Jvm.Cond.code ({ cls := "java/lang/StringUTF16", name := "getChar", desc := "([BI)C" } : Jvm.MethodName) prog_35_method_5_code (2 : Nat) (Option.some Jvm.ClassFile.FieldType.char)) ∈ lw_all := lw_g (lw_at lw_m1 117 rfl) rfl
theorem q179 : (Jvm.Cond.fieldLink "java/lang/StringUTF16" (44 : Nat) "java/lang/StringUTF16" "$assertionsDisabled" "Z") ∈ lw_all := lw_g (lw_at lw_m1 118 rfl) rfl
theorem q180 : (Jvm.Cond.laysStatic "java/lang/StringUTF16" "$assertionsDisabled" "Z") ∈ lw_tbl := lw_at lw_m1 119 rfl
theorem q181 : (Jvm.Cond.fieldLink "java/lang/StringUTF16" (59 : Nat) "java/lang/StringUTF16" "HI_BYTE_SHIFT" "I") ∈ lw_all := lw_g (lw_at lw_m1 120 rfl) rfl
theorem q182 : (Jvm.Cond.laysStatic "java/lang/StringUTF16" "HI_BYTE_SHIFT" "I") ∈ lw_tbl := lw_at lw_m1 121 rfl
theorem q183 : (Jvm.Cond.fieldLink "java/lang/StringUTF16" (63 : Nat) "java/lang/StringUTF16" "LO_BYTE_SHIFT" "I") ∈ lw_all := lw_g (lw_at lw_m1 122 rfl) rfl
theorem q184 : (Jvm.Cond.laysStatic "java/lang/StringUTF16" "LO_BYTE_SHIFT" "I") ∈ lw_tbl := lw_at lw_m1 123 rfl
theorem q639 : (Jvm.Cond.static ({ cls := "java/lang/StringUTF16", name := "newBytesFor", desc := "(I)[B" } : Jvm.MethodName)) ∈ lw_all := lw_g (lw_at lw_m3 98 rfl) rfl
theorem q640 : (Jvm.Cond.code ({ cls := "java/lang/StringUTF16", name := "newBytesFor", desc := "(I)[B" } : Jvm.MethodName) prog_35_method_2_code (1 : Nat) (Option.some (Jvm.ClassFile.FieldType.array Jvm.ClassFile.FieldType.byte))) ∈ lw_all := lw_g (lw_at lw_m3 99 rfl) rfl
theorem q641 : (Jvm.Cond.methodLink "java/lang/StringUTF16" (11 : Nat) ({ cls := "java/lang/StringUTF16", name := "newBytesLength", desc := "(I)I" } : Jvm.MethodName)) ∈ lw_all := lw_g (lw_at lw_m3 100 rfl) rfl
theorem q642 : (Jvm.Cond.static ({ cls := "java/lang/StringUTF16", name := "newBytesLength", desc := "(I)I" } : Jvm.MethodName)) ∈ lw_all := lw_g (lw_at lw_m3 101 rfl) rfl
theorem q643 : (Jvm.Cond.code ({ cls := "java/lang/StringUTF16", name := "newBytesLength", desc := "(I)I" } : Jvm.MethodName) prog_35_method_3_code (1 : Nat) (Option.some Jvm.ClassFile.FieldType.int)) ∈ lw_all := lw_g (lw_at lw_m3 102 rfl) rfl
theorem q644 : (Jvm.Cond.constant "java/lang/StringUTF16" (20 : Nat) (1073741823 : Int32)) ∈ lw_all := lw_g (lw_at lw_m3 103 rfl) rfl
theorem q701 : (Jvm.Cond.static ({ cls := "java/lang/StringUTF16", name := "inflate", desc := "([BI[BII)V" } : Jvm.MethodName)) ∈ lw_all := lw_g (lw_at lw_m3 160 rfl) rfl
theorem q702 : (Jvm.Cond.code ({ cls := "java/lang/StringUTF16", name := "inflate", desc := "([BI[BII)V" } : Jvm.MethodName) prog_35_method_86_code (6 : Nat) (Option.none : Option Jvm.ClassFile.FieldType)) ∈ lw_all := lw_g (lw_at lw_m3 161 rfl) rfl
theorem q703 : (Jvm.Cond.methodLink "java/lang/StringUTF16" (173 : Nat) ({ cls := "java/lang/StringUTF16", name := "checkBoundsOffCount", desc := "(II[B)V" } : Jvm.MethodName)) ∈ lw_all := lw_g (lw_at lw_m3 162 rfl) rfl
theorem q704 : (Jvm.Cond.static ({ cls := "java/lang/StringUTF16", name := "checkBoundsOffCount", desc := "(II[B)V" } : Jvm.MethodName)) ∈ lw_all := lw_g (lw_at lw_m3 163 rfl) rfl
theorem q705 : (Jvm.Cond.code ({ cls := "java/lang/StringUTF16", name := "checkBoundsOffCount", desc := "(II[B)V" } : Jvm.MethodName) prog_35_method_94_code (3 : Nat) (Option.none : Option Jvm.ClassFile.FieldType)) ∈ lw_all := lw_g (lw_at lw_m3 164 rfl) rfl
theorem q706 : (Jvm.Cond.methodLink "java/lang/StringUTF16" (419 : Nat) ({ cls := "java/lang/String", name := "checkBoundsOffCount", desc := "(III)I" } : Jvm.MethodName)) ∈ lw_all := lw_g (lw_at lw_m3 165 rfl) rfl
theorem q712 : (Jvm.Cond.methodLink "java/lang/StringUTF16" (111 : Nat) ({ cls := "java/lang/StringUTF16", name := "putChar", desc := "([BII)V" } : Jvm.MethodName)) ∈ lw_all := lw_g (lw_at lw_m3 171 rfl) rfl
theorem q713 : (Jvm.Cond.static ({ cls := "java/lang/StringUTF16", name := "putChar", desc := "([BII)V" } : Jvm.MethodName)) ∈ lw_all := lw_g (lw_at lw_m3 172 rfl) rfl
theorem q714 : (Jvm.Cond.code ({ cls := "java/lang/StringUTF16", name := "putChar", desc := "([BII)V" } : Jvm.MethodName) prog_35_method_4_code (3 : Nat) (Option.none : Option Jvm.ClassFile.FieldType)) ∈ lw_all := lw_g (lw_at lw_m3 173 rfl) rfl
theorem q716 : (Jvm.Cond.static ({ cls := "java/lang/StringUTF16", name := "putCharSB", desc := "([BII)V" } : Jvm.MethodName)) ∈ lw_all := lw_g (lw_at lw_m3 175 rfl) rfl
theorem q717 : (Jvm.Cond.code ({ cls := "java/lang/StringUTF16", name := "putCharSB", desc := "([BII)V" } : Jvm.MethodName) prog_35_method_71_code (3 : Nat) (Option.none : Option Jvm.ClassFile.FieldType)) ∈ lw_all := lw_g (lw_at lw_m3 176 rfl) rfl
theorem q755 : (Jvm.Cond.static ({ cls := "java/lang/StringUTF16", name := "compress", desc := "([BII)[B" } : Jvm.MethodName)) ∈ lw_all := lw_g (lw_at lw_m3 214 rfl) rfl
theorem q756 : (Jvm.Cond.code ({ cls := "java/lang/StringUTF16", name := "compress", desc := "([BII)[B" } : Jvm.MethodName) prog_35_method_17_code (6 : Nat) (Option.some (Jvm.ClassFile.FieldType.array Jvm.ClassFile.FieldType.byte))) ∈ lw_all := lw_g (lw_at lw_m3 215 rfl) rfl
theorem q757 : (Jvm.Cond.methodLink "java/lang/StringUTF16" (123 : Nat) ({ cls := "java/lang/StringUTF16", name := "compress", desc := "([BI[BII)I" } : Jvm.MethodName)) ∈ lw_all := lw_g (lw_at lw_m3 216 rfl) rfl
theorem q758 : (Jvm.Cond.static ({ cls := "java/lang/StringUTF16", name := "compress", desc := "([BI[BII)I" } : Jvm.MethodName)) ∈ lw_all := lw_g (lw_at lw_m3 217 rfl) rfl
theorem q759 : (Jvm.Cond.code ({ cls := "java/lang/StringUTF16", name := "compress", desc := "([BI[BII)I" } : Jvm.MethodName) prog_35_method_22_code (7 : Nat) (Option.some Jvm.ClassFile.FieldType.int)) ∈ lw_all := lw_g (lw_at lw_m3 218 rfl) rfl
theorem q760 : (Jvm.Cond.methodLink "java/lang/StringUTF16" (126 : Nat) ({ cls := "java/util/Arrays", name := "copyOfRange", desc := "([BII)[B" } : Jvm.MethodName)) ∈ lw_all := lw_g (lw_at lw_m3 219 rfl) rfl
theorem q762 : (Jvm.Cond.static ({ cls := "java/lang/StringUTF16", name := "coderFromArrayLen", desc := "([BI)B" } : Jvm.MethodName)) ∈ lw_all := lw_g (lw_at lw_m3 221 rfl) rfl
theorem q763 : (Jvm.Cond.code ({ cls := "java/lang/StringUTF16", name := "coderFromArrayLen", desc := "([BI)B" } : Jvm.MethodName) prog_35_method_15_code (2 : Nat) (Option.some Jvm.ClassFile.FieldType.byte)) ∈ lw_all := lw_g (lw_at lw_m3 222 rfl) rfl
theorem q841 : (Jvm.Cond.static ({ cls := "java/lang/StringUTF16", name := "putCharsAt", desc := "([BICCCC)I" } : Jvm.MethodName)) ∈ lw_all := lw_g (lw_at lw_m4 60 rfl) rfl
theorem q842 : (Jvm.Cond.code ({ cls := "java/lang/StringUTF16", name := "putCharsAt", desc := "([BICCCC)I" } : Jvm.MethodName) prog_35_method_81_code (7 : Nat) (Option.some Jvm.ClassFile.FieldType.int)) ∈ lw_all := lw_g (lw_at lw_m4 61 rfl) rfl
theorem q843 : (Jvm.Cond.methodLink "java/lang/StringUTF16" (96 : Nat) ({ cls := "java/lang/StringUTF16", name := "checkBoundsBeginEnd", desc := "(II[B)V" } : Jvm.MethodName)) ∈ lw_all := lw_g (lw_at lw_m4 62 rfl) rfl
theorem q844 : (Jvm.Cond.static ({ cls := "java/lang/StringUTF16", name := "checkBoundsBeginEnd", desc := "(II[B)V" } : Jvm.MethodName)) ∈ lw_all := lw_g (lw_at lw_m4 63 rfl) rfl
theorem q845 : (Jvm.Cond.code ({ cls := "java/lang/StringUTF16", name := "checkBoundsBeginEnd", desc := "(II[B)V" } : Jvm.MethodName) prog_35_method_93_code (3 : Nat) (Option.none : Option Jvm.ClassFile.FieldType)) ∈ lw_all := lw_g (lw_at lw_m4 64 rfl) rfl
theorem q846 : (Jvm.Cond.methodLink "java/lang/StringUTF16" (241 : Nat) ({ cls := "java/lang/String", name := "checkBoundsBeginEnd", desc := "(III)V" } : Jvm.MethodName)) ∈ lw_all := lw_g (lw_at lw_m4 65 rfl) rfl
theorem q879 : (Jvm.Cond.static ({ cls := "java/lang/StringUTF16", name := "indexOf", desc := "([B[B)I" } : Jvm.MethodName)) ∈ lw_all := lw_g (lw_at lw_m4 98 rfl) rfl
theorem q880 : (Jvm.Cond.code ({ cls := "java/lang/StringUTF16", name := "indexOf", desc := "([B[B)I" } : Jvm.MethodName) prog_35_method_41_code (2 : Nat) (Option.some Jvm.ClassFile.FieldType.int)) ∈ lw_all := lw_g (lw_at lw_m4 99 rfl) rfl
theorem q881 : (Jvm.Cond.methodLink "java/lang/StringUTF16" (235 : Nat) ({ cls := "java/lang/StringUTF16", name := "indexOfUnsafe", desc := "([BI[BII)I" } : Jvm.MethodName)) ∈ lw_all := lw_g (lw_at lw_m4 100 rfl) rfl
theorem q882 : (Jvm.Cond.static ({ cls := "java/lang/StringUTF16", name := "indexOfUnsafe", desc := "([BI[BII)I" } : Jvm.MethodName)) ∈ lw_all := lw_g (lw_at lw_m4 101 rfl) rfl
theorem q883 : (Jvm.Cond.code ({ cls := "java/lang/StringUTF16", name := "indexOfUnsafe", desc := "([BI[BII)I" } : Jvm.MethodName) prog_35_method_43_code (11 : Nat) (Option.some Jvm.ClassFile.FieldType.int)) ∈ lw_all := lw_g (lw_at lw_m4 102 rfl) rfl
theorem q885 : (Jvm.Cond.static ({ cls := "java/lang/StringUTF16", name := "indexOfLatin1", desc := "([B[B)I" } : Jvm.MethodName)) ∈ lw_all := lw_g (lw_at lw_m4 104 rfl) rfl
theorem q886 : (Jvm.Cond.code ({ cls := "java/lang/StringUTF16", name := "indexOfLatin1", desc := "([B[B)I" } : Jvm.MethodName) prog_35_method_44_code (2 : Nat) (Option.some Jvm.ClassFile.FieldType.int)) ∈ lw_all := lw_g (lw_at lw_m4 105 rfl) rfl
theorem q887 : (Jvm.Cond.methodLink "java/lang/StringUTF16" (238 : Nat) ({ cls := "java/lang/StringUTF16", name := "indexOfLatin1Unsafe", desc := "([BI[BII)I" } : Jvm.MethodName)) ∈ lw_all := lw_g (lw_at lw_m4 106 rfl) rfl
theorem q888 : (Jvm.Cond.static ({ cls := "java/lang/StringUTF16", name := "indexOfLatin1Unsafe", desc := "([BI[BII)I" } : Jvm.MethodName)) ∈ lw_all := lw_g (lw_at lw_m4 107 rfl) rfl
theorem q889 : (Jvm.Cond.code ({ cls := "java/lang/StringUTF16", name := "indexOfLatin1Unsafe", desc := "([BI[BII)I" } : Jvm.MethodName) prog_35_method_46_code (11 : Nat) (Option.some Jvm.ClassFile.FieldType.int)) ∈ lw_all := lw_g (lw_at lw_m4 108 rfl) rfl
theorem q1052 : (Jvm.Cond.static ({ cls := "java/lang/StringUTF16", name := "hashCode", desc := "([B)I" } : Jvm.MethodName)) ∈ lw_all := lw_g (lw_at lw_m5 31 rfl) rfl
theorem q1053 : (Jvm.Cond.code ({ cls := "java/lang/StringUTF16", name := "hashCode", desc := "([B)I" } : Jvm.MethodName) prog_35_method_39_code (1 : Nat) (Option.some Jvm.ClassFile.FieldType.int)) ∈ lw_all := lw_g (lw_at lw_m5 32 rfl) rfl
theorem q1054 : (Jvm.Cond.methodLink "java/lang/StringUTF16" (220 : Nat) ({ cls := "jdk/internal/util/ArraysSupport", name := "vectorizedHashCode", desc := "(Ljava/lang/Object;IIII)I" } : Jvm.MethodName)) ∈ lw_all := lw_g (lw_at lw_m5 33 rfl) rfl
theorem q71 : (Jvm.Cond.initialized "java/util/Objects") ∈ lw_all := lw_g (lw_at lw_m1 10 rfl) rfl
theorem q297 : (Jvm.Cond.static ({ cls := "java/util/Objects", name := "checkIndex", desc := "(II)I" } : Jvm.MethodName)) ∈ lw_all := lw_g (lw_at lw_m1 236 rfl) rfl
theorem q298 : (Jvm.Cond.code ({ cls := "java/util/Objects", name := "checkIndex", desc := "(II)I" } : Jvm.MethodName) prog_48_method_17_code (2 : Nat) (Option.some Jvm.ClassFile.FieldType.int)) ∈ lw_all := lw_g (lw_at lw_m1 237 rfl) rfl
theorem q299 : (Jvm.Cond.methodLink "java/util/Objects" (105 : Nat) ({ cls := "jdk/internal/util/Preconditions", name := "checkIndex", desc := "(IILjava/util/function/BiFunction;)I" } : Jvm.MethodName)) ∈ lw_all := lw_g (lw_at lw_m1 238 rfl) rfl
theorem q74 : (Jvm.Cond.initialized "jdk/internal/util/ArraysSupport") ∈ lw_all := lw_g (lw_at lw_m1 13 rfl) rfl
theorem q382 : (Jvm.Cond.static ({ cls := "jdk/internal/util/ArraysSupport", name := "newLength", desc := "(III)I" } : Jvm.MethodName)) ∈ lw_all := lw_g (lw_at lw_m2 81 rfl) rfl
theorem q383 : (Jvm.Cond.code ({ cls := "jdk/internal/util/ArraysSupport", name := "newLength", desc := "(III)I" } : Jvm.MethodName) prog_52_method_27_code (4 : Nat) (Option.some Jvm.ClassFile.FieldType.int)) ∈ lw_all := lw_g (lw_at lw_m2 82 rfl) rfl
theorem q384 : (Jvm.Cond.methodLink "jdk/internal/util/ArraysSupport" (194 : Nat) ({ cls := "java/lang/Math", name := "max", desc := "(II)I" } : Jvm.MethodName)) ∈ lw_all := lw_g (lw_at lw_m2 83 rfl) rfl
theorem q387 : (Jvm.Cond.constant "jdk/internal/util/ArraysSupport" (200 : Nat) (2147483639 : Int32)) ∈ lw_all := lw_g (lw_at lw_m2 86 rfl) rfl
theorem q388 : (Jvm.Cond.methodLink "jdk/internal/util/ArraysSupport" (201 : Nat) ({ cls := "jdk/internal/util/ArraysSupport", name := "hugeLength", desc := "(II)I" } : Jvm.MethodName)) ∈ lw_all := lw_g (lw_at lw_m2 87 rfl) rfl
theorem q389 : (Jvm.Cond.static ({ cls := "jdk/internal/util/ArraysSupport", name := "hugeLength", desc := "(II)I" } : Jvm.MethodName)) ∈ lw_all := lw_g (lw_at lw_m2 88 rfl) rfl
theorem q390 : (Jvm.Cond.code ({ cls := "jdk/internal/util/ArraysSupport", name := "hugeLength", desc := "(II)I" } : Jvm.MethodName) prog_52_method_28_code (3 : Nat) (Option.some Jvm.ClassFile.FieldType.int)) ∈ lw_all := lw_g (lw_at lw_m2 89 rfl) rfl
theorem q1014 : (Jvm.Cond.static ({ cls := "jdk/internal/util/ArraysSupport", name := "vectorizedHashCode", desc := "(Ljava/lang/Object;IIII)I" } : Jvm.MethodName)) ∈ lw_all := lw_g (lw_at lw_m4 233 rfl) rfl
theorem q1015 : (Jvm.Cond.code ({ cls := "jdk/internal/util/ArraysSupport", name := "vectorizedHashCode", desc := "(Ljava/lang/Object;IIII)I" } : Jvm.MethodName) prog_52_method_4_code (5 : Nat) (Option.some Jvm.ClassFile.FieldType.int)) ∈ lw_all := lw_g (lw_at lw_m4 234 rfl) rfl
theorem q1016 : (Jvm.Cond.classLink "jdk/internal/util/ArraysSupport" (60 : Nat) "[B") ∈ lw_all := lw_g (lw_at lw_m4 235 rfl) rfl
theorem q1017 : (Jvm.Cond.methodLink "jdk/internal/util/ArraysSupport" (62 : Nat) ({ cls := "jdk/internal/util/ArraysSupport", name := "signedHashCode", desc := "(I[BII)I" } : Jvm.MethodName)) ∈ lw_all := lw_g (lw_at lw_m4 236 rfl) rfl
theorem q1018 : (Jvm.Cond.static ({ cls := "jdk/internal/util/ArraysSupport", name := "signedHashCode", desc := "(I[BII)I" } : Jvm.MethodName)) ∈ lw_all := lw_g (lw_at lw_m4 237 rfl) rfl
theorem q1019 : (Jvm.Cond.code ({ cls := "jdk/internal/util/ArraysSupport", name := "signedHashCode", desc := "(I[BII)I" } : Jvm.MethodName) prog_52_method_5_code (6 : Nat) (Option.some Jvm.ClassFile.FieldType.int)) ∈ lw_all := lw_g (lw_at lw_m4 238 rfl) rfl
theorem q1020 : (Jvm.Cond.methodLink "jdk/internal/util/ArraysSupport" (66 : Nat) ({ cls := "jdk/internal/util/ArraysSupport", name := "utf16hashCode", desc := "(I[BII)I" } : Jvm.MethodName)) ∈ lw_all := lw_g (lw_at lw_m4 239 rfl) rfl
theorem q1021 : (Jvm.Cond.static ({ cls := "jdk/internal/util/ArraysSupport", name := "utf16hashCode", desc := "(I[BII)I" } : Jvm.MethodName)) ∈ lw_all := lw_g (lw_at lw_m5 0 rfl) rfl
theorem q1022 : (Jvm.Cond.code ({ cls := "jdk/internal/util/ArraysSupport", name := "utf16hashCode", desc := "(I[BII)I" } : Jvm.MethodName) prog_52_method_10_code (6 : Nat) (Option.some Jvm.ClassFile.FieldType.int)) ∈ lw_all := lw_g (lw_at lw_m5 1 rfl) rfl
theorem q1023 : (Jvm.Cond.fieldLink "jdk/internal/util/ArraysSupport" (106 : Nat) "jdk/internal/util/ArraysSupport" "JLA" "Ljdk/internal/access/JavaLangAccess;") ∈ lw_all := lw_g (lw_at lw_m5 2 rfl) rfl
theorem q1024 : (Jvm.Cond.laysStatic "jdk/internal/util/ArraysSupport" "JLA" "Ljdk/internal/access/JavaLangAccess;") ∈ lw_tbl := lw_at lw_m5 3 rfl
theorem q1025 : (Jvm.Cond.interfaceEntry "jdk/internal/util/ArraysSupport" (110 : Nat)) ∈ lw_tbl := lw_at lw_m5 4 rfl
theorem q1026 : (Jvm.Cond.methodLink "jdk/internal/util/ArraysSupport" (110 : Nat) ({ cls := "jdk/internal/access/JavaLangAccess", name := "getUTF16Char", desc := "([BI)C" } : Jvm.MethodName)) ∈ lw_all := lw_g (lw_at lw_m5 5 rfl) rfl
theorem q1036 : (Jvm.Cond.classLink "jdk/internal/util/ArraysSupport" (69 : Nat) "[C") ∈ lw_all := lw_g (lw_at lw_m5 15 rfl) rfl
theorem q1037 : (Jvm.Cond.methodLink "jdk/internal/util/ArraysSupport" (71 : Nat) ({ cls := "jdk/internal/util/ArraysSupport", name := "hashCode", desc := "(I[CII)I" } : Jvm.MethodName)) ∈ lw_all := lw_g (lw_at lw_m5 16 rfl) rfl
theorem q1038 : (Jvm.Cond.static ({ cls := "jdk/internal/util/ArraysSupport", name := "hashCode", desc := "(I[CII)I" } : Jvm.MethodName)) ∈ lw_all := lw_g (lw_at lw_m5 17 rfl) rfl
theorem q1039 : (Jvm.Cond.code ({ cls := "jdk/internal/util/ArraysSupport", name := "hashCode", desc := "(I[CII)I" } : Jvm.MethodName) prog_52_method_7_code (6 : Nat) (Option.some Jvm.ClassFile.FieldType.int)) ∈ lw_all := lw_g (lw_at lw_m5 18 rfl) rfl
theorem q1040 : (Jvm.Cond.methodLink "jdk/internal/util/ArraysSupport" (75 : Nat) ({ cls := "jdk/internal/util/ArraysSupport", name := "hashCode", desc := "(I[BII)I" } : Jvm.MethodName)) ∈ lw_all := lw_g (lw_at lw_m5 19 rfl) rfl
theorem q1041 : (Jvm.Cond.static ({ cls := "jdk/internal/util/ArraysSupport", name := "hashCode", desc := "(I[BII)I" } : Jvm.MethodName)) ∈ lw_all := lw_g (lw_at lw_m5 20 rfl) rfl
theorem q1042 : (Jvm.Cond.code ({ cls := "jdk/internal/util/ArraysSupport", name := "hashCode", desc := "(I[BII)I" } : Jvm.MethodName) prog_52_method_6_code (6 : Nat) (Option.some Jvm.ClassFile.FieldType.int)) ∈ lw_all := lw_g (lw_at lw_m5 21 rfl) rfl
theorem q1043 : (Jvm.Cond.classLink "jdk/internal/util/ArraysSupport" (77 : Nat) "[S") ∈ lw_all := lw_g (lw_at lw_m5 22 rfl) rfl
theorem q1044 : (Jvm.Cond.methodLink "jdk/internal/util/ArraysSupport" (79 : Nat) ({ cls := "jdk/internal/util/ArraysSupport", name := "hashCode", desc := "(I[SII)I" } : Jvm.MethodName)) ∈ lw_all := lw_g (lw_at lw_m5 23 rfl) rfl
theorem q1045 : (Jvm.Cond.static ({ cls := "jdk/internal/util/ArraysSupport", name := "hashCode", desc := "(I[SII)I" } : Jvm.MethodName)) ∈ lw_all := lw_g (lw_at lw_m5 24 rfl) rfl
theorem q1046 : (Jvm.Cond.code ({ cls := "jdk/internal/util/ArraysSupport", name := "hashCode", desc := "(I[SII)I" } : Jvm.MethodName) prog_52_method_8_code (6 : Nat) (Option.some Jvm.ClassFile.FieldType.int)) ∈ lw_all := lw_g (lw_at lw_m5 25 rfl) rfl
theorem q1047 : (Jvm.Cond.classLink "jdk/internal/util/ArraysSupport" (82 : Nat) "[I") ∈ lw_all := lw_g (lw_at lw_m5 26 rfl) rfl
theorem q1048 : (Jvm.Cond.methodLink "jdk/internal/util/ArraysSupport" (84 : Nat) ({ cls := "jdk/internal/util/ArraysSupport", name := "hashCode", desc := "(I[III)I" } : Jvm.MethodName)) ∈ lw_all := lw_g (lw_at lw_m5 27 rfl) rfl
theorem q1049 : (Jvm.Cond.static ({ cls := "jdk/internal/util/ArraysSupport", name := "hashCode", desc := "(I[III)I" } : Jvm.MethodName)) ∈ lw_all := lw_g (lw_at lw_m5 28 rfl) rfl
theorem q1050 : (Jvm.Cond.code ({ cls := "jdk/internal/util/ArraysSupport", name := "hashCode", desc := "(I[III)I" } : Jvm.MethodName) prog_52_method_9_code (6 : Nat) (Option.some Jvm.ClassFile.FieldType.int)) ∈ lw_all := lw_g (lw_at lw_m5 29 rfl) rfl
theorem q75 : (Jvm.Cond.initialized "java/lang/Math") ∈ lw_all := lw_g (lw_at lw_m1 14 rfl) rfl
theorem q385 : (Jvm.Cond.static ({ cls := "java/lang/Math", name := "max", desc := "(II)I" } : Jvm.MethodName)) ∈ lw_all := lw_g (lw_at lw_m2 84 rfl) rfl
theorem q386 : (Jvm.Cond.code ({ cls := "java/lang/Math", name := "max", desc := "(II)I" } : Jvm.MethodName) prog_29_method_65_code (2 : Nat) (Option.some Jvm.ClassFile.FieldType.int)) ∈ lw_all := lw_g (lw_at lw_m2 85 rfl) rfl
theorem q425 : (Jvm.Cond.static ({ cls := "java/lang/Math", name := "min", desc := "(II)I" } : Jvm.MethodName)) ∈ lw_all := lw_g (lw_at lw_m2 124 rfl) rfl
theorem q426 : (Jvm.Cond.code ({ cls := "java/lang/Math", name := "min", desc := "(II)I" } : Jvm.MethodName) prog_29_method_69_code (2 : Nat) (Option.some Jvm.ClassFile.FieldType.int)) ∈ lw_all := lw_g (lw_at lw_m2 125 rfl) rfl
theorem q76 : (Jvm.Cond.initialized "java/util/Arrays") ∈ lw_all := lw_g (lw_at lw_m1 15 rfl) rfl
theorem q392 : (Jvm.Cond.static ({ cls := "java/util/Arrays", name := "copyOf", desc := "([Ljava/lang/Object;I)[Ljava/lang/Object;" } : Jvm.MethodName)) ∈ lw_all := lw_g (lw_at lw_m2 91 rfl) rfl
theorem q393 : (Jvm.Cond.code ({ cls := "java/util/Arrays", name := "copyOf", desc := "([Ljava/lang/Object;I)[Ljava/lang/Object;" } : Jvm.MethodName) prog_44_method_119_code (2 : Nat) (Option.some (Jvm.ClassFile.FieldType.array (Jvm.ClassFile.FieldType.object "java/lang/Object")))) ∈ lw_all := lw_g (lw_at lw_m2 92 rfl) rfl
theorem q394 : (Jvm.Cond.methodLink "java/util/Arrays" (86 : Nat) ({ cls := "java/lang/Object", name := "getClass", desc := "()Ljava/lang/Class;" } : Jvm.MethodName)) ∈ lw_all := lw_g (lw_at lw_m2 93 rfl) rfl
theorem q418 : (Jvm.Cond.methodLink "java/util/Arrays" (300 : Nat) ({ cls := "java/util/Arrays", name := "copyOf", desc := "([Ljava/lang/Object;ILjava/lang/Class;)[Ljava/lang/Object;" } : Jvm.MethodName)) ∈ lw_all := lw_g (lw_at lw_m2 117 rfl) rfl
theorem q419 : (Jvm.Cond.static ({ cls := "java/util/Arrays", name := "copyOf", desc := "([Ljava/lang/Object;ILjava/lang/Class;)[Ljava/lang/Object;" } : Jvm.MethodName)) ∈ lw_all := lw_g (lw_at lw_m2 118 rfl) rfl
theorem q420 : (Jvm.Cond.code ({ cls := "java/util/Arrays", name := "copyOf", desc := "([Ljava/lang/Object;ILjava/lang/Class;)[Ljava/lang/Object;" } : Jvm.MethodName) prog_44_method_120_code (4 : Nat) (Option.some (Jvm.ClassFile.FieldType.array (Jvm.ClassFile.FieldType.object "java/lang/Object")))) ∈ lw_all := lw_g (lw_at lw_m2 119 rfl) rfl
theorem q421 : (Jvm.Cond.classLink "java/util/Arrays" (110 : Nat) "[Ljava/lang/Object;") ∈ lw_all := lw_g (lw_at lw_m2 120 rfl) rfl
theorem q423 : (Jvm.Cond.classLink "java/util/Arrays" (2 : Nat) "java/lang/Object") ∈ lw_all := lw_g (lw_at lw_m2 122 rfl) rfl
theorem q424 : (Jvm.Cond.methodLink "java/util/Arrays" (304 : Nat) ({ cls := "java/lang/Math", name := "min", desc := "(II)I" } : Jvm.MethodName)) ∈ lw_all := lw_g (lw_at lw_m2 123 rfl) rfl
theorem q427 : (Jvm.Cond.methodLink "java/util/Arrays" (150 : Nat) ({ cls := "java/lang/System", name := "arraycopy", desc := "(Ljava/lang/Object;ILjava/lang/Object;II)V" } : Jvm.MethodName)) ∈ lw_all := lw_g (lw_at lw_m2 126 rfl) rfl
theorem q676 : (Jvm.Cond.static ({ cls := "java/util/Arrays", name := "copyOf", desc := "([BI)[B" } : Jvm.MethodName)) ∈ lw_all := lw_g (lw_at lw_m3 135 rfl) rfl
theorem q677 : (Jvm.Cond.code ({ cls := "java/util/Arrays", name := "copyOf", desc := "([BI)[B" } : Jvm.MethodName) prog_44_method_121_code (3 : Nat) (Option.some (Jvm.ClassFile.FieldType.array Jvm.ClassFile.FieldType.byte))) ∈ lw_all := lw_g (lw_at lw_m3 136 rfl) rfl
theorem q678 : (Jvm.Cond.methodLink "java/util/Arrays" (310 : Nat) ({ cls := "[B", name := "clone", desc := "()Ljava/lang/Object;" } : Jvm.MethodName)) ∈ lw_all := lw_g (lw_at lw_m3 137 rfl) rfl
theorem q684 : (Jvm.Cond.classLink "java/util/Arrays" (311 : Nat) "[B") ∈ lw_all := lw_g (lw_at lw_m3 143 rfl) rfl
theorem q746 : (Jvm.Cond.static ({ cls := "java/util/Arrays", name := "copyOfRange", desc := "([BII)[B" } : Jvm.MethodName)) ∈ lw_all := lw_g (lw_at lw_m3 205 rfl) rfl
theorem q747 : (Jvm.Cond.code ({ cls := "java/util/Arrays", name := "copyOfRange", desc := "([BII)[B" } : Jvm.MethodName) prog_44_method_132_code (3 : Nat) (Option.some (Jvm.ClassFile.FieldType.array Jvm.ClassFile.FieldType.byte))) ∈ lw_all := lw_g (lw_at lw_m3 206 rfl) rfl
theorem q748 : (Jvm.Cond.methodLink "java/util/Arrays" (339 : Nat) ({ cls := "java/util/Arrays", name := "copyOfRangeByte", desc := "([BII)[B" } : Jvm.MethodName)) ∈ lw_all := lw_g (lw_at lw_m3 207 rfl) rfl
theorem q749 : (Jvm.Cond.static ({ cls := "java/util/Arrays", name := "copyOfRangeByte", desc := "([BII)[B" } : Jvm.MethodName)) ∈ lw_all := lw_g (lw_at lw_m3 208 rfl) rfl
theorem q750 : (Jvm.Cond.code ({ cls := "java/util/Arrays", name := "copyOfRangeByte", desc := "([BII)[B" } : Jvm.MethodName) prog_44_method_133_code (5 : Nat) (Option.some (Jvm.ClassFile.FieldType.array Jvm.ClassFile.FieldType.byte))) ∈ lw_all := lw_g (lw_at lw_m3 209 rfl) rfl
theorem q751 : (Jvm.Cond.methodLink "java/util/Arrays" (343 : Nat) ({ cls := "java/util/Arrays", name := "checkLength", desc := "(II)V" } : Jvm.MethodName)) ∈ lw_all := lw_g (lw_at lw_m3 210 rfl) rfl
theorem q752 : (Jvm.Cond.static ({ cls := "java/util/Arrays", name := "checkLength", desc := "(II)V" } : Jvm.MethodName)) ∈ lw_all := lw_g (lw_at lw_m3 211 rfl) rfl
theorem q753 : (Jvm.Cond.code ({ cls := "java/util/Arrays", name := "checkLength", desc := "(II)V" } : Jvm.MethodName) prog_44_method_131_code (2 : Nat) (Option.none : Option Jvm.ClassFile.FieldType)) ∈ lw_all := lw_g (lw_at lw_m3 212 rfl) rfl
theorem q79 : (Jvm.Cond.initialized "java/lang/Throwable") ∈ lw_all := lw_g (lw_at lw_m1 18 rfl) rfl
theorem q899 : (Jvm.Cond.declares ({ cls := "java/lang/Throwable", name := "<init>", desc := "()V" } : Jvm.MethodName)) ∈ lw_tbl := lw_at lw_m4 118 rfl
theorem q900 : (Jvm.Cond.declares ({ cls := "java/lang/Throwable", name := "<init>", desc := "(Ljava/lang/String;)V" } : Jvm.MethodName)) ∈ lw_tbl := lw_at lw_m4 119 rfl
theorem q904 : (Jvm.Cond.lays "java/lang/Throwable" "java/lang/Throwable" "cause" "Ljava/lang/Throwable;") ∈ lw_all := lw_g (lw_at lw_m4 123 rfl) rfl
theorem q906 : (Jvm.Cond.lays "java/lang/Throwable" "java/lang/Throwable" "stackTrace" "[Ljava/lang/StackTraceElement;") ∈ lw_all := lw_g (lw_at lw_m4 125 rfl) rfl
theorem q908 : (Jvm.Cond.lays "java/lang/Throwable" "java/lang/Throwable" "suppressedExceptions" "Ljava/util/List;") ∈ lw_all := lw_g (lw_at lw_m4 127 rfl) rfl
theorem q910 : (Jvm.Cond.lays "java/lang/Throwable" "java/lang/Throwable" "detailMessage" "Ljava/lang/String;") ∈ lw_all := lw_g (lw_at lw_m4 129 rfl) rfl
theorem q912 : (Jvm.Cond.lays "java/lang/Throwable" "java/lang/Throwable" "backtrace" "Ljava/lang/Object;") ∈ lw_all := lw_g (lw_at lw_m4 131 rfl) rfl
theorem q913 : (Jvm.Cond.fieldLink "java/lang/Throwable" (198 : Nat) "java/lang/Throwable" "backtrace" "Ljava/lang/Object;") ∈ lw_all := lw_g (lw_at lw_m4 132 rfl) rfl
theorem q914 : (Jvm.Cond.superclass "java/lang/Throwable" "java/lang/Object") ∈ lw_all := lw_g (lw_at lw_m4 133 rfl) rfl
theorem q915 : (Jvm.Cond.instanceMethod ({ cls := "java/lang/Throwable", name := "<init>", desc := "()V" } : Jvm.MethodName)) ∈ lw_all := lw_g (lw_at lw_m4 134 rfl) rfl
theorem q916 : (Jvm.Cond.code ({ cls := "java/lang/Throwable", name := "<init>", desc := "()V" } : Jvm.MethodName) prog_38_method_1_code (1 : Nat) (Option.none : Option Jvm.ClassFile.FieldType)) ∈ lw_all := lw_g (lw_at lw_m4 135 rfl) rfl
theorem q917 : (Jvm.Cond.methodLink "java/lang/Throwable" (1 : Nat) ({ cls := "java/lang/Object", name := "<init>", desc := "()V" } : Jvm.MethodName)) ∈ lw_all := lw_g (lw_at lw_m4 136 rfl) rfl
theorem q918 : (Jvm.Cond.fieldLink "java/lang/Throwable" (13 : Nat) "java/lang/Throwable" "UNASSIGNED_STACK" "[Ljava/lang/StackTraceElement;") ∈ lw_all := lw_g (lw_at lw_m4 137 rfl) rfl
theorem q919 : (Jvm.Cond.laysStatic "java/lang/Throwable" "UNASSIGNED_STACK" "[Ljava/lang/StackTraceElement;") ∈ lw_tbl := lw_at lw_m4 138 rfl
theorem q920 : (Jvm.Cond.fieldLink "java/lang/Throwable" (20 : Nat) "java/lang/Throwable" "SUPPRESSED_SENTINEL" "Ljava/util/List;") ∈ lw_all := lw_g (lw_at lw_m4 139 rfl) rfl
theorem q921 : (Jvm.Cond.laysStatic "java/lang/Throwable" "SUPPRESSED_SENTINEL" "Ljava/util/List;") ∈ lw_tbl := lw_at lw_m4 140 rfl
theorem q922 : (Jvm.Cond.methodLink "java/lang/Throwable" (27 : Nat) ({ cls := "java/lang/Throwable", name := "fillInStackTrace", desc := "()Ljava/lang/Throwable;" } : Jvm.MethodName)) ∈ lw_all := lw_g (lw_at lw_m4 141 rfl) rfl
theorem q923 : (Jvm.Cond.instanceMethod ({ cls := "java/lang/Throwable", name := "fillInStackTrace", desc := "()Ljava/lang/Throwable;" } : Jvm.MethodName)) ∈ lw_all := lw_g (lw_at lw_m4 142 rfl) rfl
theorem q924 : (Jvm.Cond.sameMethod "java/lang/Throwable" "java/lang/Throwable" "fillInStackTrace" "()Ljava/lang/Throwable;") ∈ lw_all := lw_g (lw_at lw_m4 143 rfl) rfl
theorem q926 : (Jvm.Cond.codeSync ({ cls := "java/lang/Throwable", name := "fillInStackTrace", desc := "()Ljava/lang/Throwable;" } : Jvm.MethodName) prog_38_method_18_code (1 : Nat) (Option.some (Jvm.ClassFile.FieldType.object "java/lang/Throwable"))) ∈ lw_all := lw_g (lw_at lw_m4 145 rfl) rfl
theorem q927 : (Jvm.Cond.methodLink "java/lang/Throwable" (202 : Nat) ({ cls := "java/lang/Throwable", name := "fillInStackTrace", desc := "(I)Ljava/lang/Throwable;" } : Jvm.MethodName)) ∈ lw_all := lw_g (lw_at lw_m4 146 rfl) rfl
theorem q928 : (Jvm.Cond.privateMethod ({ cls := "java/lang/Throwable", name := "fillInStackTrace", desc := "(I)Ljava/lang/Throwable;" } : Jvm.MethodName)) ∈ lw_tbl := lw_at lw_m4 147 rfl
theorem q929 : (Jvm.Cond.instanceMethod ({ cls := "java/lang/Throwable", name := "fillInStackTrace", desc := "(I)Ljava/lang/Throwable;" } : Jvm.MethodName)) ∈ lw_all := lw_g (lw_at lw_m4 148 rfl) rfl
theorem q930 : (Jvm.Cond.instantiable "java/lang/Throwable" (6 : Nat)) ∈ lw_all := lw_g (lw_at lw_m4 149 rfl) rfl
theorem q931 : (Jvm.Cond.native ({ cls := "java/lang/Throwable", name := "fillInStackTrace", desc := "(I)Ljava/lang/Throwable;" } : Jvm.MethodName)) ∈ lw_all := lw_g (lw_at lw_m4 150 rfl) rfl
theorem q939 : (Jvm.Cond.instanceMethod ({ cls := "java/lang/Throwable", name := "<init>", desc := "(Ljava/lang/String;Ljava/lang/Throwable;ZZ)V" } : Jvm.MethodName)) ∈ lw_all := lw_g (lw_at lw_m4 158 rfl) rfl
theorem q940 : (Jvm.Cond.code ({ cls := "java/lang/Throwable", name := "<init>", desc := "(Ljava/lang/String;Ljava/lang/Throwable;ZZ)V" } : Jvm.MethodName) prog_38_method_5_code (5 : Nat) (Option.none : Option Jvm.ClassFile.FieldType)) ∈ lw_all := lw_g (lw_at lw_m4 159 rfl) rfl
theorem q945 : (Jvm.Cond.fieldLink "java/lang/Throwable" (198 : Nat) "java/lang/Throwable" "backtrace" "Ljava/lang/Object;") ∈ lw_all := lw_g (lw_at lw_m4 164 rfl) rfl
theorem q946 : (Jvm.Cond.fieldLink "java/lang/Throwable" (31 : Nat) "java/lang/Throwable" "detailMessage" "Ljava/lang/String;") ∈ lw_all := lw_g (lw_at lw_m4 165 rfl) rfl
theorem q947 : (Jvm.Cond.fieldLink "java/lang/Throwable" (7 : Nat) "java/lang/Throwable" "cause" "Ljava/lang/Throwable;") ∈ lw_all := lw_g (lw_at lw_m4 166 rfl) rfl
theorem q948 : (Jvm.Cond.fieldLink "java/lang/Throwable" (17 : Nat) "java/lang/Throwable" "stackTrace" "[Ljava/lang/StackTraceElement;") ∈ lw_all := lw_g (lw_at lw_m4 167 rfl) rfl
theorem q949 : (Jvm.Cond.fieldLink "java/lang/Throwable" (24 : Nat) "java/lang/Throwable" "suppressedExceptions" "Ljava/util/List;") ∈ lw_all := lw_g (lw_at lw_m4 168 rfl) rfl
theorem q954 : (Jvm.Cond.soleField "java/lang/Throwable" "backtrace") ∈ lw_all := lw_g (lw_at lw_m4 173 rfl) rfl
theorem q955 : (Jvm.Cond.soleField "java/lang/Throwable" "detailMessage") ∈ lw_all := lw_g (lw_at lw_m4 174 rfl) rfl
theorem q956 : (Jvm.Cond.soleField "java/lang/Throwable" "cause") ∈ lw_all := lw_g (lw_at lw_m4 175 rfl) rfl
theorem q957 : (Jvm.Cond.soleField "java/lang/Throwable" "stackTrace") ∈ lw_all := lw_g (lw_at lw_m4 176 rfl) rfl
theorem q959 : (Jvm.Cond.soleField "java/lang/Throwable" "depth") ∈ lw_all := lw_g (lw_at lw_m4 178 rfl) rfl
theorem q960 : (Jvm.Cond.soleField "java/lang/Throwable" "suppressedExceptions") ∈ lw_all := lw_g (lw_at lw_m4 179 rfl) rfl
theorem q1704 : (Jvm.Cond.sameMethod "java/lang/Throwable" "java/lang/Throwable" "fillInStackTrace" "(I)Ljava/lang/Throwable;") ∈ lw_all := lw_g (lw_at lw_m7 203 rfl) rfl
theorem q1735 : (Jvm.Cond.castable "java/lang/Throwable" "java/lang/Object") ∈ lw_tbl := lw_at lw_m7 234 rfl
theorem in_J11 : ∀ w ∈ wsJ110, w ∈ lw_all := lw_in wsJ110 [904, 906, 908, 910, 912] (by decide +kernel) (by decide +kernel)
theorem q80 : (Jvm.Cond.initialized "java/lang/Exception") ∈ lw_all := lw_g (lw_at lw_m1 19 rfl) rfl
theorem q897 : (Jvm.Cond.declares ({ cls := "java/lang/Exception", name := "<init>", desc := "()V" } : Jvm.MethodName)) ∈ lw_tbl := lw_at lw_m4 116 rfl
theorem q898 : (Jvm.Cond.declares ({ cls := "java/lang/Exception", name := "<init>", desc := "(Ljava/lang/String;)V" } : Jvm.MethodName)) ∈ lw_tbl := lw_at lw_m4 117 rfl
theorem q936 : (Jvm.Cond.instanceMethod ({ cls := "java/lang/Exception", name := "<init>", desc := "(Ljava/lang/String;Ljava/lang/Throwable;ZZ)V" } : Jvm.MethodName)) ∈ lw_all := lw_g (lw_at lw_m4 155 rfl) rfl
theorem q937 : (Jvm.Cond.code ({ cls := "java/lang/Exception", name := "<init>", desc := "(Ljava/lang/String;Ljava/lang/Throwable;ZZ)V" } : Jvm.MethodName) prog_27_method_5_code (5 : Nat) (Option.none : Option Jvm.ClassFile.FieldType)) ∈ lw_all := lw_g (lw_at lw_m4 156 rfl) rfl
theorem q938 : (Jvm.Cond.methodLink "java/lang/Exception" (16 : Nat) ({ cls := "java/lang/Throwable", name := "<init>", desc := "(Ljava/lang/String;Ljava/lang/Throwable;ZZ)V" } : Jvm.MethodName)) ∈ lw_all := lw_g (lw_at lw_m4 157 rfl) rfl
theorem q1281 : (Jvm.Cond.instanceMethod ({ cls := "java/lang/Exception", name := "<init>", desc := "()V" } : Jvm.MethodName)) ∈ lw_all := lw_g (lw_at lw_m6 20 rfl) rfl
theorem q1282 : (Jvm.Cond.code ({ cls := "java/lang/Exception", name := "<init>", desc := "()V" } : Jvm.MethodName) prog_27_method_1_code (1 : Nat) (Option.none : Option Jvm.ClassFile.FieldType)) ∈ lw_all := lw_g (lw_at lw_m6 21 rfl) rfl
theorem q1283 : (Jvm.Cond.methodLink "java/lang/Exception" (1 : Nat) ({ cls := "java/lang/Throwable", name := "<init>", desc := "()V" } : Jvm.MethodName)) ∈ lw_all := lw_g (lw_at lw_m6 22 rfl) rfl
theorem q81 : (Jvm.Cond.initialized "java/lang/RuntimeException") ∈ lw_all := lw_g (lw_at lw_m1 20 rfl) rfl
theorem q1266 : (Jvm.Cond.declares ({ cls := "java/lang/RuntimeException", name := "<init>", desc := "()V" } : Jvm.MethodName)) ∈ lw_tbl := lw_at lw_m6 5 rfl
theorem q1267 : (Jvm.Cond.declares ({ cls := "java/lang/RuntimeException", name := "<init>", desc := "(Ljava/lang/String;)V" } : Jvm.MethodName)) ∈ lw_tbl := lw_at lw_m6 6 rfl
theorem q1278 : (Jvm.Cond.instanceMethod ({ cls := "java/lang/RuntimeException", name := "<init>", desc := "()V" } : Jvm.MethodName)) ∈ lw_all := lw_g (lw_at lw_m6 17 rfl) rfl
theorem q1279 : (Jvm.Cond.code ({ cls := "java/lang/RuntimeException", name := "<init>", desc := "()V" } : Jvm.MethodName) prog_31_method_1_code (1 : Nat) (Option.none : Option Jvm.ClassFile.FieldType)) ∈ lw_all := lw_g (lw_at lw_m6 18 rfl) rfl
theorem q1280 : (Jvm.Cond.methodLink "java/lang/RuntimeException" (1 : Nat) ({ cls := "java/lang/Exception", name := "<init>", desc := "()V" } : Jvm.MethodName)) ∈ lw_all := lw_g (lw_at lw_m6 19 rfl) rfl
theorem q82 : (Jvm.Cond.initialized "java/util/NoSuchElementException") ∈ lw_all := lw_g (lw_at lw_m1 21 rfl) rfl
theorem q416 : (Jvm.Cond.selects "java/util/NoSuchElementException" ({ cls := "java/lang/Object", name := "getClass", desc := "()Ljava/lang/Class;" } : Jvm.MethodName) ({ cls := "java/lang/Object", name := "getClass", desc := "()Ljava/lang/Class;" } : Jvm.MethodName)) ∈ lw_all := lw_g (lw_at lw_m2 115 rfl) rfl
theorem q925 : (Jvm.Cond.selects "java/util/NoSuchElementException" ({ cls := "java/lang/Throwable", name := "fillInStackTrace", desc := "()Ljava/lang/Throwable;" } : Jvm.MethodName) ({ cls := "java/lang/Throwable", name := "fillInStackTrace", desc := "()Ljava/lang/Throwable;" } : Jvm.MethodName)) ∈ lw_all := lw_g (lw_at lw_m4 144 rfl) rfl
theorem q1264 : (Jvm.Cond.instantiable "java/util/NoSuchElementException" (6 : Nat)) ∈ lw_all := lw_g (lw_at lw_m6 3 rfl) rfl
theorem q1265 : (Jvm.Cond.castable "java/util/NoSuchElementException" "java/util/NoSuchElementException") ∈ lw_tbl := lw_at lw_m6 4 rfl
theorem q1268 : (Jvm.Cond.selects "java/util/NoSuchElementException" ({ cls := "java/lang/Throwable", name := "fillInStackTrace", desc := "(I)Ljava/lang/Throwable;" } : Jvm.MethodName) ({ cls := "java/lang/Throwable", name := "fillInStackTrace", desc := "(I)Ljava/lang/Throwable;" } : Jvm.MethodName)) ∈ lw_all := lw_g (lw_at lw_m6 7 rfl) rfl
theorem q1269 : (Jvm.Cond.lays "java/util/NoSuchElementException" "java/lang/Throwable" "cause" "Ljava/lang/Throwable;") ∈ lw_all := lw_g (lw_at lw_m6 8 rfl) rfl
theorem q1270 : (Jvm.Cond.lays "java/util/NoSuchElementException" "java/lang/Throwable" "stackTrace" "[Ljava/lang/StackTraceElement;") ∈ lw_all := lw_g (lw_at lw_m6 9 rfl) rfl
theorem q1271 : (Jvm.Cond.lays "java/util/NoSuchElementException" "java/lang/Throwable" "suppressedExceptions" "Ljava/util/List;") ∈ lw_all := lw_g (lw_at lw_m6 10 rfl) rfl
theorem q1272 : (Jvm.Cond.lays "java/util/NoSuchElementException" "java/lang/Throwable" "detailMessage" "Ljava/lang/String;") ∈ lw_all := lw_g (lw_at lw_m6 11 rfl) rfl
theorem q1273 : (Jvm.Cond.lays "java/util/NoSuchElementException" "java/lang/Throwable" "backtrace" "Ljava/lang/Object;") ∈ lw_all := lw_g (lw_at lw_m6 12 rfl) rfl
theorem q1275 : (Jvm.Cond.instanceMethod ({ cls := "java/util/NoSuchElementException", name := "<init>", desc := "()V" } : Jvm.MethodName)) ∈ lw_all := lw_g (lw_at lw_m6 14 rfl) rfl
theorem q1276 : (Jvm.Cond.code ({ cls := "java/util/NoSuchElementException", name := "<init>", desc := "()V" } : Jvm.MethodName) prog_47_method_1_code (1 : Nat) (Option.none : Option Jvm.ClassFile.FieldType)) ∈ lw_all := lw_g (lw_at lw_m6 15 rfl) rfl
theorem q1277 : (Jvm.Cond.methodLink "java/util/NoSuchElementException" (1 : Nat) ({ cls := "java/lang/RuntimeException", name := "<init>", desc := "()V" } : Jvm.MethodName)) ∈ lw_all := lw_g (lw_at lw_m6 16 rfl) rfl
theorem q1284 : (Jvm.Cond.lays "java/util/NoSuchElementException" "java/lang/Throwable" "depth" "I") ∈ lw_all := lw_g (lw_at lw_m6 23 rfl) rfl
theorem q1285 : (Jvm.Cond.superclass "java/util/NoSuchElementException" "java/lang/RuntimeException") ∈ lw_all := lw_g (lw_at lw_m6 24 rfl) rfl
theorem q1720 : (Jvm.Cond.castable "java/util/NoSuchElementException" "java/lang/Object") ∈ lw_tbl := lw_at lw_m7 219 rfl
theorem in_J14 : ∀ w ∈ wsJ140, w ∈ lw_all := lw_in wsJ140 [1269, 1270, 1271, 1272, 1273, 1284] (by decide +kernel) (by decide +kernel)
theorem q85 : (Jvm.Cond.initialized "java/lang/AbstractStringBuilder") ∈ lw_all := lw_g (lw_at lw_m1 24 rfl) rfl
theorem q634 : (Jvm.Cond.instanceMethod ({ cls := "java/lang/AbstractStringBuilder", name := "<init>", desc := "(I)V" } : Jvm.MethodName)) ∈ lw_all := lw_g (lw_at lw_m3 93 rfl) rfl
theorem q635 : (Jvm.Cond.code ({ cls := "java/lang/AbstractStringBuilder", name := "<init>", desc := "(I)V" } : Jvm.MethodName) prog_22_method_2_code (2 : Nat) (Option.none : Option Jvm.ClassFile.FieldType)) ∈ lw_all := lw_g (lw_at lw_m3 94 rfl) rfl
theorem q636 : (Jvm.Cond.methodLink "java/lang/AbstractStringBuilder" (3 : Nat) ({ cls := "java/lang/Object", name := "<init>", desc := "()V" } : Jvm.MethodName)) ∈ lw_all := lw_g (lw_at lw_m3 95 rfl) rfl
theorem q637 : (Jvm.Cond.fieldLink "java/lang/AbstractStringBuilder" (18 : Nat) "java/lang/String" "COMPACT_STRINGS" "Z") ∈ lw_all := lw_g (lw_at lw_m3 96 rfl) rfl
theorem q638 : (Jvm.Cond.methodLink "java/lang/AbstractStringBuilder" (26 : Nat) ({ cls := "java/lang/StringUTF16", name := "newBytesFor", desc := "(I)[B" } : Jvm.MethodName)) ∈ lw_all := lw_g (lw_at lw_m3 97 rfl) rfl
theorem q645 : (Jvm.Cond.fieldLink "java/lang/AbstractStringBuilder" (15 : Nat) "java/lang/AbstractStringBuilder" "value" "[B") ∈ lw_all := lw_g (lw_at lw_m3 104 rfl) rfl
theorem q646 : (Jvm.Cond.fieldLink "java/lang/AbstractStringBuilder" (22 : Nat) "java/lang/AbstractStringBuilder" "coder" "B") ∈ lw_all := lw_g (lw_at lw_m3 105 rfl) rfl
theorem q648 : (Jvm.Cond.fieldLink "java/lang/AbstractStringBuilder" (79 : Nat) "java/lang/AbstractStringBuilder" "count" "I") ∈ lw_all := lw_g (lw_at lw_m3 107 rfl) rfl
theorem q650 : (Jvm.Cond.soleField "java/lang/AbstractStringBuilder" "value") ∈ lw_all := lw_g (lw_at lw_m3 109 rfl) rfl
theorem q652 : (Jvm.Cond.soleField "java/lang/AbstractStringBuilder" "coder") ∈ lw_all := lw_g (lw_at lw_m3 111 rfl) rfl
theorem q654 : (Jvm.Cond.soleField "java/lang/AbstractStringBuilder" "maybeLatin1") ∈ lw_all := lw_g (lw_at lw_m3 113 rfl) rfl
theorem q656 : (Jvm.Cond.soleField "java/lang/AbstractStringBuilder" "count") ∈ lw_all := lw_g (lw_at lw_m3 115 rfl) rfl
theorem q663 : (Jvm.Cond.instanceMethod ({ cls := "java/lang/AbstractStringBuilder", name := "append", desc := "(C)Ljava/lang/AbstractStringBuilder;" } : Jvm.MethodName)) ∈ lw_all := lw_g (lw_at lw_m3 122 rfl) rfl
theorem q664 : (Jvm.Cond.code ({ cls := "java/lang/AbstractStringBuilder", name := "append", desc := "(C)Ljava/lang/AbstractStringBuilder;" } : Jvm.MethodName) prog_22_method_31_code (2 : Nat) (Option.some (Jvm.ClassFile.FieldType.object "java/lang/AbstractStringBuilder"))) ∈ lw_all := lw_g (lw_at lw_m3 123 rfl) rfl
theorem q665 : (Jvm.Cond.methodLink "java/lang/AbstractStringBuilder" (100 : Nat) ({ cls := "java/lang/AbstractStringBuilder", name := "ensureCapacityInternal", desc := "(I)V" } : Jvm.MethodName)) ∈ lw_all := lw_g (lw_at lw_m3 124 rfl) rfl
theorem q666 : (Jvm.Cond.privateMethod ({ cls := "java/lang/AbstractStringBuilder", name := "ensureCapacityInternal", desc := "(I)V" } : Jvm.MethodName)) ∈ lw_tbl := lw_at lw_m3 125 rfl
theorem q667 : (Jvm.Cond.instanceMethod ({ cls := "java/lang/AbstractStringBuilder", name := "ensureCapacityInternal", desc := "(I)V" } : Jvm.MethodName)) ∈ lw_all := lw_g (lw_at lw_m3 126 rfl) rfl
theorem q668 : (Jvm.Cond.code ({ cls := "java/lang/AbstractStringBuilder", name := "ensureCapacityInternal", desc := "(I)V" } : Jvm.MethodName) prog_22_method_9_code (3 : Nat) (Option.none : Option Jvm.ClassFile.FieldType)) ∈ lw_all := lw_g (lw_at lw_m3 127 rfl) rfl
theorem q669 : (Jvm.Cond.methodLink "java/lang/AbstractStringBuilder" (104 : Nat) ({ cls := "java/lang/AbstractStringBuilder", name := "newCapacity", desc := "(I)I" } : Jvm.MethodName)) ∈ lw_all := lw_g (lw_at lw_m3 128 rfl) rfl
theorem q670 : (Jvm.Cond.privateMethod ({ cls := "java/lang/AbstractStringBuilder", name := "newCapacity", desc := "(I)I" } : Jvm.MethodName)) ∈ lw_tbl := lw_at lw_m3 129 rfl
theorem q671 : (Jvm.Cond.instanceMethod ({ cls := "java/lang/AbstractStringBuilder", name := "newCapacity", desc := "(I)I" } : Jvm.MethodName)) ∈ lw_all := lw_g (lw_at lw_m3 130 rfl) rfl
theorem q672 : (Jvm.Cond.code ({ cls := "java/lang/AbstractStringBuilder", name := "newCapacity", desc := "(I)I" } : Jvm.MethodName) prog_22_method_10_code (6 : Nat) (Option.some Jvm.ClassFile.FieldType.int)) ∈ lw_all := lw_g (lw_at lw_m3 131 rfl) rfl
theorem q673 : (Jvm.Cond.methodLink "java/lang/AbstractStringBuilder" (114 : Nat) ({ cls := "jdk/internal/util/ArraysSupport", name := "newLength", desc := "(III)I" } : Jvm.MethodName)) ∈ lw_all := lw_g (lw_at lw_m3 132 rfl) rfl
theorem q674 : (Jvm.Cond.constant "java/lang/AbstractStringBuilder" (39 : Nat) (2147483647 : Int32)) ∈ lw_all := lw_g (lw_at lw_m3 133 rfl) rfl
theorem q675 : (Jvm.Cond.methodLink "java/lang/AbstractStringBuilder" (108 : Nat) ({ cls := "java/util/Arrays", name := "copyOf", desc := "([BI)[B" } : Jvm.MethodName)) ∈ lw_all := lw_g (lw_at lw_m3 134 rfl) rfl
theorem q685 : (Jvm.Cond.methodLink "java/lang/AbstractStringBuilder" (83 : Nat) ({ cls := "java/lang/AbstractStringBuilder", name := "isLatin1", desc := "()Z" } : Jvm.MethodName)) ∈ lw_all := lw_g (lw_at lw_m3 144 rfl) rfl
theorem q686 : (Jvm.Cond.instanceMethod ({ cls := "java/lang/AbstractStringBuilder", name := "isLatin1", desc := "()Z" } : Jvm.MethodName)) ∈ lw_all := lw_g (lw_at lw_m3 145 rfl) rfl
theorem q687 : (Jvm.Cond.sameMethod "java/lang/AbstractStringBuilder" "java/lang/AbstractStringBuilder" "isLatin1" "()Z") ∈ lw_all := lw_g (lw_at lw_m3 146 rfl) rfl
theorem q689 : (Jvm.Cond.code ({ cls := "java/lang/AbstractStringBuilder", name := "isLatin1", desc := "()Z" } : Jvm.MethodName) prog_22_method_68_code (1 : Nat) (Option.some Jvm.ClassFile.FieldType.boolean)) ∈ lw_all := lw_g (lw_at lw_m3 148 rfl) rfl
theorem q690 : (Jvm.Cond.methodLink "java/lang/AbstractStringBuilder" (191 : Nat) ({ cls := "java/lang/StringLatin1", name := "canEncode", desc := "(C)Z" } : Jvm.MethodName)) ∈ lw_all := lw_g (lw_at lw_m3 149 rfl) rfl
theorem q693 : (Jvm.Cond.methodLink "java/lang/AbstractStringBuilder" (195 : Nat) ({ cls := "java/lang/AbstractStringBuilder", name := "inflate", desc := "()V" } : Jvm.MethodName)) ∈ lw_all := lw_g (lw_at lw_m3 152 rfl) rfl
theorem q694 : (Jvm.Cond.privateMethod ({ cls := "java/lang/AbstractStringBuilder", name := "inflate", desc := "()V" } : Jvm.MethodName)) ∈ lw_tbl := lw_at lw_m3 153 rfl
theorem q695 : (Jvm.Cond.instanceMethod ({ cls := "java/lang/AbstractStringBuilder", name := "inflate", desc := "()V" } : Jvm.MethodName)) ∈ lw_all := lw_g (lw_at lw_m3 154 rfl) rfl
theorem q696 : (Jvm.Cond.code ({ cls := "java/lang/AbstractStringBuilder", name := "inflate", desc := "()V" } : Jvm.MethodName) prog_22_method_11_code (2 : Nat) (Option.none : Option Jvm.ClassFile.FieldType)) ∈ lw_all := lw_g (lw_at lw_m3 155 rfl) rfl
theorem q697 : (Jvm.Cond.methodLink "java/lang/AbstractStringBuilder" (125 : Nat) ({ cls := "java/lang/StringLatin1", name := "inflate", desc := "([BI[BII)V" } : Jvm.MethodName)) ∈ lw_all := lw_g (lw_at lw_m3 156 rfl) rfl
theorem q715 : (Jvm.Cond.methodLink "java/lang/AbstractStringBuilder" (197 : Nat) ({ cls := "java/lang/StringUTF16", name := "putCharSB", desc := "([BII)V" } : Jvm.MethodName)) ∈ lw_all := lw_g (lw_at lw_m3 174 rfl) rfl
theorem q732 : (Jvm.Cond.instanceMethod ({ cls := "java/lang/AbstractStringBuilder", name := "getValue", desc := "()[B" } : Jvm.MethodName)) ∈ lw_all := lw_g (lw_at lw_m3 191 rfl) rfl
theorem q733 : (Jvm.Cond.sameMethod "java/lang/AbstractStringBuilder" "java/lang/AbstractStringBuilder" "getValue" "()[B") ∈ lw_all := lw_g (lw_at lw_m3 192 rfl) rfl
theorem q735 : (Jvm.Cond.code ({ cls := "java/lang/AbstractStringBuilder", name := "getValue", desc := "()[B" } : Jvm.MethodName) prog_22_method_64_code (1 : Nat) (Option.some (Jvm.ClassFile.FieldType.array Jvm.ClassFile.FieldType.byte))) ∈ lw_all := lw_g (lw_at lw_m3 194 rfl) rfl
theorem q737 : (Jvm.Cond.instanceMethod ({ cls := "java/lang/AbstractStringBuilder", name := "length", desc := "()I" } : Jvm.MethodName)) ∈ lw_all := lw_g (lw_at lw_m3 196 rfl) rfl
theorem q738 : (Jvm.Cond.sameMethod "java/lang/AbstractStringBuilder" "java/lang/AbstractStringBuilder" "length" "()I") ∈ lw_all := lw_g (lw_at lw_m3 197 rfl) rfl
theorem q743 : (Jvm.Cond.code ({ cls := "java/lang/AbstractStringBuilder", name := "length", desc := "()I" } : Jvm.MethodName) prog_22_method_6_code (1 : Nat) (Option.some Jvm.ClassFile.FieldType.int)) ∈ lw_all := lw_g (lw_at lw_m3 202 rfl) rfl
theorem q834 : (Jvm.Cond.instanceMethod ({ cls := "java/lang/AbstractStringBuilder", name := "append", desc := "(Ljava/lang/String;)Ljava/lang/AbstractStringBuilder;" } : Jvm.MethodName)) ∈ lw_all := lw_g (lw_at lw_m4 53 rfl) rfl
theorem q835 : (Jvm.Cond.code ({ cls := "java/lang/AbstractStringBuilder", name := "append", desc := "(Ljava/lang/String;)Ljava/lang/AbstractStringBuilder;" } : Jvm.MethodName) prog_22_method_22_code (3 : Nat) (Option.some (Jvm.ClassFile.FieldType.object "java/lang/AbstractStringBuilder"))) ∈ lw_all := lw_g (lw_at lw_m4 54 rfl) rfl
theorem q836 : (Jvm.Cond.methodLink "java/lang/AbstractStringBuilder" (204 : Nat) ({ cls := "java/lang/AbstractStringBuilder", name := "appendNull", desc := "()Ljava/lang/AbstractStringBuilder;" } : Jvm.MethodName)) ∈ lw_all := lw_g (lw_at lw_m4 55 rfl) rfl
theorem q837 : (Jvm.Cond.privateMethod ({ cls := "java/lang/AbstractStringBuilder", name := "appendNull", desc := "()Ljava/lang/AbstractStringBuilder;" } : Jvm.MethodName)) ∈ lw_tbl := lw_at lw_m4 56 rfl
theorem q838 : (Jvm.Cond.instanceMethod ({ cls := "java/lang/AbstractStringBuilder", name := "appendNull", desc := "()Ljava/lang/AbstractStringBuilder;" } : Jvm.MethodName)) ∈ lw_all := lw_g (lw_at lw_m4 57 rfl) rfl
theorem q839 : (Jvm.Cond.code ({ cls := "java/lang/AbstractStringBuilder", name := "appendNull", desc := "()Ljava/lang/AbstractStringBuilder;" } : Jvm.MethodName) prog_22_method_26_code (3 : Nat) (Option.some (Jvm.ClassFile.FieldType.object "java/lang/AbstractStringBuilder"))) ∈ lw_all := lw_g (lw_at lw_m4 58 rfl) rfl
theorem q840 : (Jvm.Cond.methodLink "java/lang/AbstractStringBuilder" (226 : Nat) ({ cls := "java/lang/StringUTF16", name := "putCharsAt", desc := "([BICCCC)I" } : Jvm.MethodName)) ∈ lw_all := lw_g (lw_at lw_m4 59 rfl) rfl
theorem q852 : (Jvm.Cond.methodLink "java/lang/AbstractStringBuilder" (32 : Nat) ({ cls := "java/lang/String", name := "length", desc := "()I" } : Jvm.MethodName)) ∈ lw_all := lw_g (lw_at lw_m4 71 rfl) rfl
theorem q853 : (Jvm.Cond.methodLink "java/lang/AbstractStringBuilder" (208 : Nat) ({ cls := "java/lang/AbstractStringBuilder", name := "putStringAt", desc := "(ILjava/lang/String;)V" } : Jvm.MethodName)) ∈ lw_all := lw_g (lw_at lw_m4 72 rfl) rfl
theorem q854 : (Jvm.Cond.privateMethod ({ cls := "java/lang/AbstractStringBuilder", name := "putStringAt", desc := "(ILjava/lang/String;)V" } : Jvm.MethodName)) ∈ lw_tbl := lw_at lw_m4 73 rfl
theorem q855 : (Jvm.Cond.instanceMethod ({ cls := "java/lang/AbstractStringBuilder", name := "putStringAt", desc := "(ILjava/lang/String;)V" } : Jvm.MethodName)) ∈ lw_all := lw_g (lw_at lw_m4 74 rfl) rfl
theorem q856 : (Jvm.Cond.code ({ cls := "java/lang/AbstractStringBuilder", name := "putStringAt", desc := "(ILjava/lang/String;)V" } : Jvm.MethodName) prog_22_method_73_code (3 : Nat) (Option.none : Option Jvm.ClassFile.FieldType)) ∈ lw_all := lw_g (lw_at lw_m4 75 rfl) rfl
theorem q857 : (Jvm.Cond.methodLink "java/lang/AbstractStringBuilder" (397 : Nat) ({ cls := "java/lang/AbstractStringBuilder", name := "inflateIfNeededFor", desc := "(Ljava/lang/String;)V" } : Jvm.MethodName)) ∈ lw_all := lw_g (lw_at lw_m4 76 rfl) rfl
theorem q858 : (Jvm.Cond.privateMethod ({ cls := "java/lang/AbstractStringBuilder", name := "inflateIfNeededFor", desc := "(Ljava/lang/String;)V" } : Jvm.MethodName)) ∈ lw_tbl := lw_at lw_m4 77 rfl
theorem q859 : (Jvm.Cond.instanceMethod ({ cls := "java/lang/AbstractStringBuilder", name := "inflateIfNeededFor", desc := "(Ljava/lang/String;)V" } : Jvm.MethodName)) ∈ lw_all := lw_g (lw_at lw_m4 78 rfl) rfl
theorem q860 : (Jvm.Cond.code ({ cls := "java/lang/AbstractStringBuilder", name := "inflateIfNeededFor", desc := "(Ljava/lang/String;)V" } : Jvm.MethodName) prog_22_method_71_code (2 : Nat) (Option.none : Option Jvm.ClassFile.FieldType)) ∈ lw_all := lw_g (lw_at lw_m4 79 rfl) rfl
theorem q861 : (Jvm.Cond.methodLink "java/lang/AbstractStringBuilder" (40 : Nat) ({ cls := "java/lang/String", name := "coder", desc := "()B" } : Jvm.MethodName)) ∈ lw_all := lw_g (lw_at lw_m4 80 rfl) rfl
theorem q862 : (Jvm.Cond.methodLink "java/lang/AbstractStringBuilder" (399 : Nat) ({ cls := "java/lang/String", name := "getBytes", desc := "([BIB)V" } : Jvm.MethodName)) ∈ lw_all := lw_g (lw_at lw_m4 81 rfl) rfl
theorem q1696 : (Jvm.Cond.sameMethod "java/lang/AbstractStringBuilder" "java/lang/AbstractStringBuilder" "append" "(C)Ljava/lang/AbstractStringBuilder;") ∈ lw_all := lw_g (lw_at lw_m7 195 rfl) rfl
theorem q1697 : (Jvm.Cond.sameMethod "java/lang/AbstractStringBuilder" "java/lang/AbstractStringBuilder" "ensureCapacityInternal" "(I)V") ∈ lw_all := lw_g (lw_at lw_m7 196 rfl) rfl
theorem q1698 : (Jvm.Cond.sameMethod "java/lang/AbstractStringBuilder" "java/lang/AbstractStringBuilder" "newCapacity" "(I)I") ∈ lw_all := lw_g (lw_at lw_m7 197 rfl) rfl
theorem q1699 : (Jvm.Cond.sameMethod "java/lang/AbstractStringBuilder" "java/lang/AbstractStringBuilder" "inflate" "()V") ∈ lw_all := lw_g (lw_at lw_m7 198 rfl) rfl
theorem q1700 : (Jvm.Cond.sameMethod "java/lang/AbstractStringBuilder" "java/lang/AbstractStringBuilder" "append" "(Ljava/lang/String;)Ljava/lang/AbstractStringBuilder;") ∈ lw_all := lw_g (lw_at lw_m7 199 rfl) rfl
theorem q1701 : (Jvm.Cond.sameMethod "java/lang/AbstractStringBuilder" "java/lang/AbstractStringBuilder" "appendNull" "()Ljava/lang/AbstractStringBuilder;") ∈ lw_all := lw_g (lw_at lw_m7 200 rfl) rfl
theorem q1702 : (Jvm.Cond.sameMethod "java/lang/AbstractStringBuilder" "java/lang/AbstractStringBuilder" "putStringAt" "(ILjava/lang/String;)V") ∈ lw_all := lw_g (lw_at lw_m7 201 rfl) rfl
theorem q1703 : (Jvm.Cond.sameMethod "java/lang/AbstractStringBuilder" "java/lang/AbstractStringBuilder" "inflateIfNeededFor" "(Ljava/lang/String;)V") ∈ lw_all := lw_g (lw_at lw_m7 202 rfl) rfl
theorem q86 : (Jvm.Cond.initialized "java/lang/StringBuilder") ∈ lw_all := lw_g (lw_at lw_m1 25 rfl) rfl
theorem q413 : (Jvm.Cond.selects "java/lang/StringBuilder" ({ cls := "java/lang/Object", name := "getClass", desc := "()Ljava/lang/Class;" } : Jvm.MethodName) ({ cls := "java/lang/Object", name := "getClass", desc := "()Ljava/lang/Class;" } : Jvm.MethodName)) ∈ lw_all := lw_g (lw_at lw_m2 112 rfl) rfl
theorem q629 : (Jvm.Cond.instantiable "java/lang/StringBuilder" (4 : Nat)) ∈ lw_all := lw_g (lw_at lw_m3 88 rfl) rfl
theorem q631 : (Jvm.Cond.instanceMethod ({ cls := "java/lang/StringBuilder", name := "<init>", desc := "()V" } : Jvm.MethodName)) ∈ lw_all := lw_g (lw_at lw_m3 90 rfl) rfl
theorem q632 : (Jvm.Cond.code ({ cls := "java/lang/StringBuilder", name := "<init>", desc := "()V" } : Jvm.MethodName) prog_33_method_1_code (1 : Nat) (Option.none : Option Jvm.ClassFile.FieldType)) ∈ lw_all := lw_g (lw_at lw_m3 91 rfl) rfl
theorem q633 : (Jvm.Cond.methodLink "java/lang/StringBuilder" (1 : Nat) ({ cls := "java/lang/AbstractStringBuilder", name := "<init>", desc := "(I)V" } : Jvm.MethodName)) ∈ lw_all := lw_g (lw_at lw_m3 92 rfl) rfl
theorem q649 : (Jvm.Cond.lays "java/lang/StringBuilder" "java/lang/AbstractStringBuilder" "value" "[B") ∈ lw_all := lw_g (lw_at lw_m3 108 rfl) rfl
theorem q651 : (Jvm.Cond.lays "java/lang/StringBuilder" "java/lang/AbstractStringBuilder" "coder" "B") ∈ lw_all := lw_g (lw_at lw_m3 110 rfl) rfl
theorem q653 : (Jvm.Cond.lays "java/lang/StringBuilder" "java/lang/AbstractStringBuilder" "maybeLatin1" "Z") ∈ lw_all := lw_g (lw_at lw_m3 112 rfl) rfl
theorem q655 : (Jvm.Cond.lays "java/lang/StringBuilder" "java/lang/AbstractStringBuilder" "count" "I") ∈ lw_all := lw_g (lw_at lw_m3 114 rfl) rfl
theorem q657 : (Jvm.Cond.superclass "java/lang/StringBuilder" "java/lang/AbstractStringBuilder") ∈ lw_all := lw_g (lw_at lw_m3 116 rfl) rfl
theorem q659 : (Jvm.Cond.instanceMethod ({ cls := "java/lang/StringBuilder", name := "append", desc := "(C)Ljava/lang/StringBuilder;" } : Jvm.MethodName)) ∈ lw_all := lw_g (lw_at lw_m3 118 rfl) rfl
theorem q660 : (Jvm.Cond.selects "java/lang/StringBuilder" ({ cls := "java/lang/StringBuilder", name := "append", desc := "(C)Ljava/lang/StringBuilder;" } : Jvm.MethodName) ({ cls := "java/lang/StringBuilder", name := "append", desc := "(C)Ljava/lang/StringBuilder;" } : Jvm.MethodName)) ∈ lw_all := lw_g (lw_at lw_m3 119 rfl) rfl
theorem q661 : (Jvm.Cond.code ({ cls := "java/lang/StringBuilder", name := "append", desc := "(C)Ljava/lang/StringBuilder;" } : Jvm.MethodName) prog_33_method_14_code (2 : Nat) (Option.some (Jvm.ClassFile.FieldType.object "java/lang/StringBuilder"))) ∈ lw_all := lw_g (lw_at lw_m3 120 rfl) rfl
theorem q662 : (Jvm.Cond.methodLink "java/lang/StringBuilder" (50 : Nat) ({ cls := "java/lang/AbstractStringBuilder", name := "append", desc := "(C)Ljava/lang/AbstractStringBuilder;" } : Jvm.MethodName)) ∈ lw_all := lw_g (lw_at lw_m3 121 rfl) rfl
theorem q688 : (Jvm.Cond.selects "java/lang/StringBuilder" ({ cls := "java/lang/AbstractStringBuilder", name := "isLatin1", desc := "()Z" } : Jvm.MethodName) ({ cls := "java/lang/AbstractStringBuilder", name := "isLatin1", desc := "()Z" } : Jvm.MethodName)) ∈ lw_all := lw_g (lw_at lw_m3 147 rfl) rfl
theorem q719 : (Jvm.Cond.instanceMethod ({ cls := "java/lang/StringBuilder", name := "toString", desc := "()Ljava/lang/String;" } : Jvm.MethodName)) ∈ lw_all := lw_g (lw_at lw_m3 178 rfl) rfl
theorem q720 : (Jvm.Cond.selects "java/lang/StringBuilder" ({ cls := "java/lang/StringBuilder", name := "toString", desc := "()Ljava/lang/String;" } : Jvm.MethodName) ({ cls := "java/lang/StringBuilder", name := "toString", desc := "()Ljava/lang/String;" } : Jvm.MethodName)) ∈ lw_all := lw_g (lw_at lw_m3 179 rfl) rfl
theorem q721 : (Jvm.Cond.code ({ cls := "java/lang/StringBuilder", name := "toString", desc := "()Ljava/lang/String;" } : Jvm.MethodName) prog_33_method_42_code (1 : Nat) (Option.some (Jvm.ClassFile.FieldType.object "java/lang/String"))) ∈ lw_all := lw_g (lw_at lw_m3 180 rfl) rfl
theorem q722 : (Jvm.Cond.classLink "java/lang/StringBuilder" (18 : Nat) "java/lang/String") ∈ lw_all := lw_g (lw_at lw_m3 181 rfl) rfl
theorem q724 : (Jvm.Cond.methodLink "java/lang/StringBuilder" (137 : Nat) ({ cls := "java/lang/String", name := "<init>", desc := "(Ljava/lang/StringBuilder;)V" } : Jvm.MethodName)) ∈ lw_all := lw_g (lw_at lw_m3 183 rfl) rfl
theorem q734 : (Jvm.Cond.selects "java/lang/StringBuilder" ({ cls := "java/lang/AbstractStringBuilder", name := "getValue", desc := "()[B" } : Jvm.MethodName) ({ cls := "java/lang/AbstractStringBuilder", name := "getValue", desc := "()[B" } : Jvm.MethodName)) ∈ lw_all := lw_g (lw_at lw_m3 193 rfl) rfl
theorem q739 : (Jvm.Cond.selects "java/lang/StringBuilder" ({ cls := "java/lang/AbstractStringBuilder", name := "length", desc := "()I" } : Jvm.MethodName) ({ cls := "java/lang/StringBuilder", name := "length", desc := "()I" } : Jvm.MethodName)) ∈ lw_all := lw_g (lw_at lw_m3 198 rfl) rfl
theorem q740 : (Jvm.Cond.instanceMethod ({ cls := "java/lang/StringBuilder", name := "length", desc := "()I" } : Jvm.MethodName)) ∈ lw_all := lw_g (lw_at lw_m3 199 rfl) rfl
theorem q741 : (Jvm.Cond.code ({ cls := "java/lang/StringBuilder", name := "length", desc := "()I" } : Jvm.MethodName) prog_33_method_93_code (1 : Nat) (Option.some Jvm.ClassFile.FieldType.int)) ∈ lw_all := lw_g (lw_at lw_m3 200 rfl) rfl
theorem q742 : (Jvm.Cond.methodLink "java/lang/StringBuilder" (343 : Nat) ({ cls := "java/lang/AbstractStringBuilder", name := "length", desc := "()I" } : Jvm.MethodName)) ∈ lw_all := lw_g (lw_at lw_m3 201 rfl) rfl
theorem q830 : (Jvm.Cond.instanceMethod ({ cls := "java/lang/StringBuilder", name := "append", desc := "(Ljava/lang/String;)Ljava/lang/StringBuilder;" } : Jvm.MethodName)) ∈ lw_all := lw_g (lw_at lw_m4 49 rfl) rfl
theorem q831 : (Jvm.Cond.selects "java/lang/StringBuilder" ({ cls := "java/lang/StringBuilder", name := "append", desc := "(Ljava/lang/String;)Ljava/lang/StringBuilder;" } : Jvm.MethodName) ({ cls := "java/lang/StringBuilder", name := "append", desc := "(Ljava/lang/String;)Ljava/lang/StringBuilder;" } : Jvm.MethodName)) ∈ lw_all := lw_g (lw_at lw_m4 50 rfl) rfl
theorem q832 : (Jvm.Cond.code ({ cls := "java/lang/StringBuilder", name := "append", desc := "(Ljava/lang/String;)Ljava/lang/StringBuilder;" } : Jvm.MethodName) prog_33_method_7_code (2 : Nat) (Option.some (Jvm.ClassFile.FieldType.object "java/lang/StringBuilder"))) ∈ lw_all := lw_g (lw_at lw_m4 51 rfl) rfl
theorem q833 : (Jvm.Cond.methodLink "java/lang/StringBuilder" (29 : Nat) ({ cls := "java/lang/AbstractStringBuilder", name := "append", desc := "(Ljava/lang/String;)Ljava/lang/AbstractStringBuilder;" } : Jvm.MethodName)) ∈ lw_all := lw_g (lw_at lw_m4 52 rfl) rfl
theorem q1252 : (Jvm.Cond.selects "java/lang/StringBuilder" ({ cls := "java/lang/Object", name := "equals", desc := "(Ljava/lang/Object;)Z" } : Jvm.MethodName) ({ cls := "java/lang/Object", name := "equals", desc := "(Ljava/lang/Object;)Z" } : Jvm.MethodName)) ∈ lw_all := lw_g (lw_at lw_m5 231 rfl) rfl
theorem q1723 : (Jvm.Cond.castable "java/lang/StringBuilder" "java/lang/Object") ∈ lw_tbl := lw_at lw_m7 222 rfl
theorem in_J16 : ∀ w ∈ wsJ160, w ∈ lw_all := lw_in wsJ160 [649, 651, 653, 655] (by decide +kernel) (by decide +kernel)
theorem q88 : (Jvm.Cond.initialized "java/lang/Record") ∈ lw_all := lw_g (lw_at lw_m1 27 rfl) rfl
theorem q987 : (Jvm.Cond.instanceMethod ({ cls := "java/lang/Record", name := "<init>", desc := "()V" } : Jvm.MethodName)) ∈ lw_all := lw_g (lw_at lw_m4 206 rfl) rfl
theorem q988 : (Jvm.Cond.code ({ cls := "java/lang/Record", name := "<init>", desc := "()V" } : Jvm.MethodName) prog_30_method_1_code (1 : Nat) (Option.none : Option Jvm.ClassFile.FieldType)) ∈ lw_all := lw_g (lw_at lw_m4 207 rfl) rfl
theorem q989 : (Jvm.Cond.methodLink "java/lang/Record" (1 : Nat) ({ cls := "java/lang/Object", name := "<init>", desc := "()V" } : Jvm.MethodName)) ∈ lw_all := lw_g (lw_at lw_m4 208 rfl) rfl
theorem q105 : (Jvm.Cond.instanceMethod ({ cls := "java/lang/Object", name := "<init>", desc := "()V" } : Jvm.MethodName)) ∈ lw_all := lw_g (lw_at lw_m1 44 rfl) rfl
theorem q106 : (Jvm.Cond.code ({ cls := "java/lang/Object", name := "<init>", desc := "()V" } : Jvm.MethodName) object_method_1_code (1 : Nat) (Option.none : Option Jvm.ClassFile.FieldType)) ∈ lw_all := lw_g (lw_at lw_m1 45 rfl) rfl
theorem q395 : (Jvm.Cond.instanceMethod ({ cls := "java/lang/Object", name := "getClass", desc := "()Ljava/lang/Class;" } : Jvm.MethodName)) ∈ lw_all := lw_g (lw_at lw_m2 94 rfl) rfl
theorem q396 : (Jvm.Cond.sameMethod "java/lang/Object" "java/lang/Object" "getClass" "()Ljava/lang/Class;") ∈ lw_all := lw_g (lw_at lw_m2 95 rfl) rfl
theorem q417 : (Jvm.Cond.native ({ cls := "java/lang/Object", name := "getClass", desc := "()Ljava/lang/Class;" } : Jvm.MethodName)) ∈ lw_all := lw_g (lw_at lw_m2 116 rfl) rfl
theorem q680 : (Jvm.Cond.native ({ cls := "java/lang/Object", name := "clone", desc := "()Ljava/lang/Object;" } : Jvm.MethodName)) ∈ lw_all := lw_g (lw_at lw_m3 139 rfl) rfl
theorem q681 : (Jvm.Cond.instanceMethod ({ cls := "java/lang/Object", name := "clone", desc := "()Ljava/lang/Object;" } : Jvm.MethodName)) ∈ lw_all := lw_g (lw_at lw_m3 140 rfl) rfl
theorem q1233 : (Jvm.Cond.declares ({ cls := "java/lang/Object", name := "equals", desc := "(Ljava/lang/Object;)Z" } : Jvm.MethodName)) ∈ lw_tbl := lw_at lw_m5 212 rfl
theorem q1235 : (Jvm.Cond.instanceMethod ({ cls := "java/lang/Object", name := "equals", desc := "(Ljava/lang/Object;)Z" } : Jvm.MethodName)) ∈ lw_all := lw_g (lw_at lw_m5 214 rfl) rfl
theorem q1236 : (Jvm.Cond.sameMethod "java/lang/Object" "java/lang/Object" "equals" "(Ljava/lang/Object;)Z") ∈ lw_all := lw_g (lw_at lw_m5 215 rfl) rfl
theorem q1254 : (Jvm.Cond.code ({ cls := "java/lang/Object", name := "equals", desc := "(Ljava/lang/Object;)Z" } : Jvm.MethodName) object_method_4_code (2 : Nat) (Option.some Jvm.ClassFile.FieldType.boolean)) ∈ lw_all := lw_g (lw_at lw_m5 233 rfl) rfl
theorem q1738 : (Jvm.Cond.declares ({ cls := "java/lang/Object", name := "getClass", desc := "()Ljava/lang/Class;" } : Jvm.MethodName)) ∈ lw_tbl := lw_at lw_m7 237 rfl
theorem q414 : (Jvm.Cond.selects "java/lang/System$2" ({ cls := "java/lang/Object", name := "getClass", desc := "()Ljava/lang/Class;" } : Jvm.MethodName) ({ cls := "java/lang/Object", name := "getClass", desc := "()Ljava/lang/Class;" } : Jvm.MethodName)) ∈ lw_all := lw_g (lw_at lw_m2 113 rfl) rfl
theorem q1029 : (Jvm.Cond.castable "java/lang/System$2" "jdk/internal/access/JavaLangAccess") ∈ lw_tbl := lw_at lw_m5 8 rfl
theorem q1030 : (Jvm.Cond.selects "java/lang/System$2" ({ cls := "jdk/internal/access/JavaLangAccess", name := "getUTF16Char", desc := "([BI)C" } : Jvm.MethodName) ({ cls := "java/lang/System$2", name := "getUTF16Char", desc := "([BI)C" } : Jvm.MethodName)) ∈ lw_all := lw_g (lw_at lw_m5 9 rfl) rfl
theorem q1031 : (Jvm.Cond.unhidden "java/lang/System$2" "getUTF16Char" "([BI)C") ∈ lw_tbl := lw_at lw_m5 10 rfl
theorem q1032 : (Jvm.Cond.instanceMethod ({ cls := "java/lang/System$2", name := "getUTF16Char", desc := "([BI)C" } : Jvm.MethodName)) ∈ lw_all := lw_g (lw_at lw_m5 11 rfl) rfl
theorem q1033 : (Jvm.Cond.publicMethod ({ cls := "java/lang/System$2", name := "getUTF16Char", desc := "([BI)C" } : Jvm.MethodName)) ∈ lw_tbl := lw_at lw_m5 12 rfl
theorem q1034 : (Jvm.Cond.code ({ cls := "java/lang/System$2", name := "getUTF16Char", desc := "([BI)C" } : Jvm.MethodName) prog_37_method_45_code (3 : Nat) (Option.some Jvm.ClassFile.FieldType.char)) ∈ lw_all := lw_g (lw_at lw_m5 13 rfl) rfl
theorem q1035 : (Jvm.Cond.methodLink "java/lang/System$2" (185 : Nat) ({ cls := "java/lang/StringUTF16", name := "getChar", desc := "([BI)C" } : Jvm.MethodName)) ∈ lw_all := lw_g (lw_at lw_m5 14 rfl) rfl
theorem q1253 : (Jvm.Cond.selects "java/lang/System$2" ({ cls := "java/lang/Object", name := "equals", desc := "(Ljava/lang/Object;)Z" } : Jvm.MethodName) ({ cls := "java/lang/Object", name := "equals", desc := "(Ljava/lang/Object;)Z" } : Jvm.MethodName)) ∈ lw_all := lw_g (lw_at lw_m5 232 rfl) rfl
theorem q1727 : (Jvm.Cond.castable "java/lang/System$2" "java/lang/Object") ∈ lw_tbl := lw_at lw_m7 226 rfl
theorem q479 : (Jvm.Cond.interfaceMethod "PickleHouse$Asked" "PickleHouse$Asked" "holds" "(LPickleHouse;LPickleHouse$Crock;)Z") ∈ lw_tbl := lw_at lw_m2 178 rfl
theorem q480 : (Jvm.Cond.declares ({ cls := "PickleHouse$Asked", name := "holds", desc := "(LPickleHouse;LPickleHouse$Crock;)Z" } : Jvm.MethodName)) ∈ lw_tbl := lw_at lw_m2 179 rfl
theorem q679 : (Jvm.Cond.sameMethod "[B" "java/lang/Object" "clone" "()Ljava/lang/Object;") ∈ lw_all := lw_g (lw_at lw_m3 138 rfl) rfl
theorem q682 : (Jvm.Cond.selects "[B" ({ cls := "[B", name := "clone", desc := "()Ljava/lang/Object;" } : Jvm.MethodName) ({ cls := "java/lang/Object", name := "clone", desc := "()Ljava/lang/Object;" } : Jvm.MethodName)) ∈ lw_all := lw_g (lw_at lw_m3 141 rfl) rfl
theorem q683 : (Jvm.Cond.castable "[B" "java/lang/Cloneable") ∈ lw_tbl := lw_at lw_m3 142 rfl
theorem q1741 : (Jvm.Cond.castable "[B" "java/lang/Object") ∈ lw_tbl := lw_at lw_m8 0 rfl
theorem q1740 : (Jvm.Cond.castable "[I" "java/lang/Object") ∈ lw_tbl := lw_at lw_m7 239 rfl
theorem q1744 : (Jvm.Cond.castable "[J" "java/lang/Object") ∈ lw_tbl := lw_at lw_m8 3 rfl
theorem q1736 : (Jvm.Cond.sameMethod "[Ljava/lang/Object;" "java/lang/Object" "getClass" "()Ljava/lang/Class;") ∈ lw_all := lw_g (lw_at lw_m7 235 rfl) rfl
theorem q1737 : (Jvm.Cond.selects "[Ljava/lang/Object;" ({ cls := "java/lang/Object", name := "getClass", desc := "()Ljava/lang/Class;" } : Jvm.MethodName) ({ cls := "java/lang/Object", name := "getClass", desc := "()Ljava/lang/Class;" } : Jvm.MethodName)) ∈ lw_all := lw_g (lw_at lw_m7 236 rfl) rfl
theorem q1743 : (Jvm.Cond.castable "[Ljava/lang/Object;" "java/lang/Object") ∈ lw_tbl := lw_at lw_m8 2 rfl
theorem q1742 : (Jvm.Cond.castable "[Z" "java/lang/Object") ∈ lw_tbl := lw_at lw_m8 1 rfl
theorem q1739 : (Jvm.Cond.castable "[[B" "java/lang/Object") ∈ lw_tbl := lw_at lw_m7 238 rfl
theorem q77 : (Jvm.Cond.initialized "java/lang/System") ∈ lw_all := lw_g (lw_at lw_m1 16 rfl) rfl
theorem q428 : (Jvm.Cond.static ({ cls := "java/lang/System", name := "arraycopy", desc := "(Ljava/lang/Object;ILjava/lang/Object;II)V" } : Jvm.MethodName)) ∈ lw_all := lw_g (lw_at lw_m2 127 rfl) rfl
theorem q429 : (Jvm.Cond.native ({ cls := "java/lang/System", name := "arraycopy", desc := "(Ljava/lang/Object;ILjava/lang/Object;II)V" } : Jvm.MethodName)) ∈ lw_all := lw_g (lw_at lw_m2 128 rfl) rfl
theorem q1027 : (Jvm.Cond.interfaceMethod "jdk/internal/access/JavaLangAccess" "jdk/internal/access/JavaLangAccess" "getUTF16Char" "([BI)C") ∈ lw_tbl := lw_at lw_m5 6 rfl
theorem q1028 : (Jvm.Cond.declares ({ cls := "jdk/internal/access/JavaLangAccess", name := "getUTF16Char", desc := "([BI)C" } : Jvm.MethodName)) ∈ lw_tbl := lw_at lw_m5 7 rfl
theorem q108 : (Jvm.Cond.arrayOver (Jvm.ClassFile.FieldType.array Jvm.ClassFile.FieldType.byte)) ∈ lw_tbl := lw_at lw_m1 47 rfl
theorem q135 : (Jvm.Cond.arrayClass Jvm.ClassFile.FieldType.int) ∈ lw_all := lw_g (lw_at lw_m1 74 rfl) rfl
theorem q270 : (Jvm.Cond.arrayClass Jvm.ClassFile.FieldType.byte) ∈ lw_all := lw_g (lw_at lw_m1 209 rfl) rfl
theorem q271 : (Jvm.Cond.arrayClass Jvm.ClassFile.FieldType.boolean) ∈ lw_all := lw_g (lw_at lw_m1 210 rfl) rfl
theorem q422 : (Jvm.Cond.arrayOver (Jvm.ClassFile.FieldType.object "java/lang/Object")) ∈ lw_tbl := lw_at lw_m2 121 rfl
theorem q1694 : (Jvm.Cond.arrayClass Jvm.ClassFile.FieldType.long) ∈ lw_all := lw_g (lw_at lw_m7 193 rfl) rfl
theorem q1745 : (Jvm.Cond.arrayClass Jvm.ClassFile.FieldType.char) ∈ lw_all := lw_g (lw_at lw_m8 4 rfl) rfl
theorem q1746 : (Jvm.Cond.arrayClass Jvm.ClassFile.FieldType.short) ∈ lw_all := lw_g (lw_at lw_m8 5 rfl) rfl
