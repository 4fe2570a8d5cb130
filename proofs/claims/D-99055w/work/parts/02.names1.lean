/-! ElephantLineLaw -/
set_option maxRecDepth 100000
def RX0 : String := "ElephantLineLaw"
abbrev cX0_led : ByteArray := method_3_code
def yX0_led : MethodName := ⟨RX0, "led", "(LElephantLine;I[J)I"⟩
def dkwX0_led_0 : List UInt8 := [44, 3, 42, 27, 182, 0, 7, 133, 80, 167, 0, 6, 78, 4, 172, 3, 172]
abbrev dktX0_led_0 : List UInt8 := dkwX0_led_0 ++ []
theorem dksX0_led_0 : cX0_led.data.toList.drop 0 = dktX0_led_0 := by decide +kernel
theorem dX0_led_0 : decode cX0_led 0 = .ok (.aload_n 2, 1) := dk_44 (dk_at dksX0_led_0 0 rfl rfl)
theorem dX0_led_1 : decode cX0_led 1 = .ok (.iconst 0, 1) := dk_3 (dk_at dksX0_led_0 1 rfl rfl)
theorem dX0_led_2 : decode cX0_led 2 = .ok (.aload_n 0, 1) := dk_42 (dk_at dksX0_led_0 2 rfl rfl)
theorem dX0_led_3 : decode cX0_led 3 = .ok (.iload_n 1, 1) := dk_27 (dk_at dksX0_led_0 3 rfl rfl)
theorem dX0_led_4 : decode cX0_led 4 = .ok (.invokevirtual 7, 3) := dk_182 0 7 (dk_at dksX0_led_0 4 rfl rfl)
theorem dX0_led_7 : decode cX0_led 7 = .ok (.i2l, 1) := dk_133 (dk_at dksX0_led_0 7 rfl rfl)
theorem dX0_led_8 : decode cX0_led 8 = .ok (.lastore, 1) := dk_80 (dk_at dksX0_led_0 8 rfl rfl)
theorem dX0_led_9 : decode cX0_led 9 = .ok (.goto 6, 3) := dk_167 0 6 (dk_at dksX0_led_0 9 rfl rfl)
theorem dX0_led_12 : decode cX0_led 12 = .ok (.astore_n 3, 1) := dk_78 (dk_at dksX0_led_0 12 rfl rfl)
theorem dX0_led_13 : decode cX0_led 13 = .ok (.iconst 1, 1) := dk_4 (dk_at dksX0_led_0 13 rfl rfl)
theorem dX0_led_14 : decode cX0_led 14 = .ok (.ireturn, 1) := dk_172 (dk_at dksX0_led_0 14 rfl rfl)
theorem dX0_led_15 : decode cX0_led 15 = .ok (.iconst 0, 1) := dk_3 (dk_at dksX0_led_0 15 rfl rfl)
theorem dX0_led_16 : decode cX0_led 16 = .ok (.ireturn, 1) := dk_172 (dk_at dksX0_led_0 16 rfl rfl)
theorem q115 : (Jvm.Cond.initialized "ElephantLineLaw") ∈ lw_all := lw_g (lw_at lw_m1 0 rfl) rfl
theorem q147 : (Jvm.Cond.classLink "ElephantLineLaw" (8 : Nat) "ElephantLine") ∈ lw_all := lw_g (lw_at lw_m1 32 rfl) rfl
theorem q149 : (Jvm.Cond.methodLink "ElephantLineLaw" (15 : Nat) ({ cls := "ElephantLine", name := "<init>", desc := "()V" } : Jvm.MethodName)) ∈ lw_all := lw_g (lw_at lw_m1 34 rfl) rfl
theorem q439 : (Jvm.Cond.methodLink "ElephantLineLaw" (19 : Nat) ({ cls := "ElephantLine", name := "feed", desc := "(IIIII)I" } : Jvm.MethodName)) ∈ lw_all := lw_g (lw_at lw_m2 84 rfl) rfl
theorem q447 : (Jvm.Cond.methodLink "ElephantLineLaw" (24 : Nat) ({ cls := "ElephantLine", name := "war", desc := "(I)I" } : Jvm.MethodName)) ∈ lw_all := lw_g (lw_at lw_m2 92 rfl) rfl
theorem q929 : (Jvm.Cond.methodLink "ElephantLineLaw" (28 : Nat) ({ cls := "ElephantLine", name := "fault", desc := "()I" } : Jvm.MethodName)) ∈ lw_all := lw_g (lw_at lw_m4 94 rfl) rfl
theorem q933 : (Jvm.Cond.methodLink "ElephantLineLaw" (33 : Nat) ({ cls := "ElephantLine", name := "where", desc := "()I" } : Jvm.MethodName)) ∈ lw_all := lw_g (lw_at lw_m4 98 rfl) rfl
theorem q937 : (Jvm.Cond.methodLink "ElephantLineLaw" (37 : Nat) ({ cls := "ElephantLine", name := "lane", desc := "(II)I" } : Jvm.MethodName)) ∈ lw_all := lw_g (lw_at lw_m4 102 rfl) rfl
theorem q970 : (Jvm.Cond.methodLink "ElephantLineLaw" (42 : Nat) ({ cls := "ElephantLine", name := "beast", desc := "(II)I" } : Jvm.MethodName)) ∈ lw_all := lw_g (lw_at lw_m4 135 rfl) rfl
theorem q1042 : (Jvm.Cond.methodLink "ElephantLineLaw" (46 : Nat) ({ cls := "ElephantLine", name := "across", desc := "(IZ)J" } : Jvm.MethodName)) ∈ lw_all := lw_g (lw_at lw_m4 207 rfl) rfl
theorem q1069 : (Jvm.Cond.methodLink "ElephantLineLaw" (51 : Nat) ({ cls := "ElephantLine", name := "meets", desc := "(IIZ)I" } : Jvm.MethodName)) ∈ lw_all := lw_g (lw_at lw_m4 234 rfl) rfl
theorem q1119 : (Jvm.Cond.methodLink "ElephantLineLaw" (56 : Nat) ({ cls := "ElephantLine", name := "mean", desc := "(IIZZ)J" } : Jvm.MethodName)) ∈ lw_all := lw_g (lw_at lw_m5 44 rfl) rfl
theorem q1135 : (Jvm.Cond.methodLink "ElephantLineLaw" (61 : Nat) ({ cls := "ElephantLine", name := "worth", desc := "(IIZ)J" } : Jvm.MethodName)) ∈ lw_all := lw_g (lw_at lw_m5 60 rfl) rfl
theorem q1150 : (Jvm.Cond.methodLink "ElephantLineLaw" (66 : Nat) ({ cls := "ElephantLine", name := "bestLane", desc := "(I)I" } : Jvm.MethodName)) ∈ lw_all := lw_g (lw_at lw_m5 75 rfl) rfl
theorem q1154 : (Jvm.Cond.methodLink "ElephantLineLaw" (70 : Nat) ({ cls := "ElephantLine", name := "all", desc := "(ZZ)J" } : Jvm.MethodName)) ∈ lw_all := lw_g (lw_at lw_m5 79 rfl) rfl
theorem q1158 : (Jvm.Cond.methodLink "ElephantLineLaw" (75 : Nat) ({ cls := "ElephantLine", name := "worst", desc := "()I" } : Jvm.MethodName)) ∈ lw_all := lw_g (lw_at lw_m5 83 rfl) rfl
theorem q1162 : (Jvm.Cond.methodLink "ElephantLineLaw" (79 : Nat) ({ cls := "ElephantLine", name := "worthIf", desc := "(IIZZ)J" } : Jvm.MethodName)) ∈ lw_all := lw_g (lw_at lw_m5 87 rfl) rfl
theorem q1170 : (Jvm.Cond.methodLink "ElephantLineLaw" (83 : Nat) ({ cls := "ElephantLine", name := "moodFor", desc := "(II)I" } : Jvm.MethodName)) ∈ lw_all := lw_g (lw_at lw_m5 95 rfl) rfl
theorem q1174 : (Jvm.Cond.methodLink "ElephantLineLaw" (87 : Nat) ({ cls := "ElephantLine", name := "toHammer", desc := "()I" } : Jvm.MethodName)) ∈ lw_all := lw_g (lw_at lw_m5 99 rfl) rfl
theorem q1191 : (Jvm.Cond.methodLink "ElephantLineLaw" (91 : Nat) ({ cls := "ElephantLine", name := "place", desc := "(I)I" } : Jvm.MethodName)) ∈ lw_all := lw_g (lw_at lw_m5 116 rfl) rfl
theorem q1211 : (Jvm.Cond.methodLink "ElephantLineLaw" (95 : Nat) ({ cls := "ElephantLine", name := "placed", desc := "(Z)J" } : Jvm.MethodName)) ∈ lw_all := lw_g (lw_at lw_m5 136 rfl) rfl
theorem q1215 : (Jvm.Cond.methodLink "ElephantLineLaw" (100 : Nat) ({ cls := "ElephantLine", name := "out", desc := "()I" } : Jvm.MethodName)) ∈ lw_all := lw_g (lw_at lw_m5 140 rfl) rfl
theorem q1219 : (Jvm.Cond.methodLink "ElephantLineLaw" (104 : Nat) ({ cls := "ElephantLine", name := "toOpen", desc := "()I" } : Jvm.MethodName)) ∈ lw_all := lw_g (lw_at lw_m5 144 rfl) rfl
theorem q1223 : (Jvm.Cond.methodLink "ElephantLineLaw" (108 : Nat) ({ cls := "ElephantLine", name := "rests", desc := "(I)I" } : Jvm.MethodName)) ∈ lw_all := lw_g (lw_at lw_m5 148 rfl) rfl
theorem q1235 : (Jvm.Cond.methodLink "ElephantLineLaw" (112 : Nat) ({ cls := "ElephantLine", name := "rest", desc := "(I)I" } : Jvm.MethodName)) ∈ lw_all := lw_g (lw_at lw_m5 160 rfl) rfl
theorem q1239 : (Jvm.Cond.methodLink "ElephantLineLaw" (116 : Nat) ({ cls := "ElephantLine", name := "weeks", desc := "(I)I" } : Jvm.MethodName)) ∈ lw_all := lw_g (lw_at lw_m5 164 rfl) rfl
theorem q1252 : (Jvm.Cond.methodLink "ElephantLineLaw" (120 : Nat) ({ cls := "ElephantLine", name := "sale", desc := "(I)I" } : Jvm.MethodName)) ∈ lw_all := lw_g (lw_at lw_m5 177 rfl) rfl
theorem q1272 : (Jvm.Cond.methodLink "ElephantLineLaw" (124 : Nat) ({ cls := "ElephantLine", name := "saleOver", desc := "(I)I" } : Jvm.MethodName)) ∈ lw_all := lw_g (lw_at lw_m5 197 rfl) rfl
theorem q1276 : (Jvm.Cond.methodLink "ElephantLineLaw" (128 : Nat) ({ cls := "ElephantLine", name := "march", desc := "(III)I" } : Jvm.MethodName)) ∈ lw_all := lw_g (lw_at lw_m5 201 rfl) rfl
theorem q1304 : (Jvm.Cond.methodLink "ElephantLineLaw" (133 : Nat) ({ cls := "ElephantLine", name := "marchAt", desc := "(IIII)I" } : Jvm.MethodName)) ∈ lw_all := lw_g (lw_at lw_m5 229 rfl) rfl
theorem q1316 : (Jvm.Cond.methodLink "ElephantLineLaw" (138 : Nat) ({ cls := "ElephantLine", name := "reach", desc := "(I)I" } : Jvm.MethodName)) ∈ lw_all := lw_g (lw_at lw_m6 1 rfl) rfl
theorem q1320 : (Jvm.Cond.methodLink "ElephantLineLaw" (142 : Nat) ({ cls := "ElephantLine", name := "worstPass", desc := "(III)I" } : Jvm.MethodName)) ∈ lw_all := lw_g (lw_at lw_m6 5 rfl) rfl
theorem q1325 : (Jvm.Cond.methodLink "ElephantLineLaw" (146 : Nat) ({ cls := "ElephantLine", name := "setOut", desc := "(III)I" } : Jvm.MethodName)) ∈ lw_all := lw_g (lw_at lw_m6 10 rfl) rfl
theorem q1329 : (Jvm.Cond.methodLink "ElephantLineLaw" (150 : Nat) ({ cls := "ElephantLine", name := "fits", desc := "()I" } : Jvm.MethodName)) ∈ lw_all := lw_g (lw_at lw_m6 14 rfl) rfl
theorem q1348 : (Jvm.Cond.methodLink "ElephantLineLaw" (154 : Nat) ({ cls := "ElephantLine", name := "could", desc := "()I" } : Jvm.MethodName)) ∈ lw_all := lw_g (lw_at lw_m6 33 rfl) rfl
theorem q1352 : (Jvm.Cond.methodLink "ElephantLineLaw" (158 : Nat) ({ cls := "ElephantLine", name := "surely", desc := "()I" } : Jvm.MethodName)) ∈ lw_all := lw_g (lw_at lw_m6 37 rfl) rfl
theorem q1356 : (Jvm.Cond.methodLink "ElephantLineLaw" (162 : Nat) ({ cls := "ElephantLine", name := "ask", desc := "()I" } : Jvm.MethodName)) ∈ lw_all := lw_g (lw_at lw_m6 41 rfl) rfl
theorem q1365 : (Jvm.Cond.methodLink "ElephantLineLaw" (166 : Nat) ({ cls := "ElephantLine", name := "turnedBy", desc := "(I)I" } : Jvm.MethodName)) ∈ lw_all := lw_g (lw_at lw_m6 50 rfl) rfl
theorem q1369 : (Jvm.Cond.methodLink "ElephantLineLaw" (170 : Nat) ({ cls := "ElephantLine", name := "battles", desc := "(IIZ)I" } : Jvm.MethodName)) ∈ lw_all := lw_g (lw_at lw_m6 54 rfl) rfl
theorem q1398 : (Jvm.Cond.methodLink "ElephantLineLaw" (174 : Nat) ({ cls := "ElephantLine", name := "won", desc := "(II)I" } : Jvm.MethodName)) ∈ lw_all := lw_g (lw_at lw_m6 83 rfl) rfl
theorem q1402 : (Jvm.Cond.methodLink "ElephantLineLaw" (178 : Nat) ({ cls := "ElephantLine", name := "acrossIn", desc := "(III)I" } : Jvm.MethodName)) ∈ lw_all := lw_g (lw_at lw_m6 87 rfl) rfl
theorem q1406 : (Jvm.Cond.methodLink "ElephantLineLaw" (182 : Nat) ({ cls := "ElephantLine", name := "move", desc := "(II)Z" } : Jvm.MethodName)) ∈ lw_all := lw_g (lw_at lw_m6 91 rfl) rfl
theorem q1422 : (Jvm.Cond.methodLink "ElephantLineLaw" (187 : Nat) ({ cls := "ElephantLine", name := "wound", desc := "(II)I" } : Jvm.MethodName)) ∈ lw_all := lw_g (lw_at lw_m6 107 rfl) rfl
theorem q1426 : (Jvm.Cond.methodLink "ElephantLineLaw" (191 : Nat) ({ cls := "ElephantLine", name := "hammer", desc := "(I)Z" } : Jvm.MethodName)) ∈ lw_all := lw_g (lw_at lw_m6 111 rfl) rfl
theorem q1430 : (Jvm.Cond.methodLink "ElephantLineLaw" (196 : Nat) ({ cls := "ElephantLine", name := "teach", desc := "(II)I" } : Jvm.MethodName)) ∈ lw_all := lw_g (lw_at lw_m6 115 rfl) rfl
theorem q1435 : (Jvm.Cond.methodLink "ElephantLineLaw" (200 : Nat) ({ cls := "ElephantLine", name := "rain", desc := "(Z)Z" } : Jvm.MethodName)) ∈ lw_all := lw_g (lw_at lw_m6 120 rfl) rfl
theorem q1439 : (Jvm.Cond.methodLink "ElephantLineLaw" (205 : Nat) ({ cls := "ElephantLine", name := "battle", desc := "()I" } : Jvm.MethodName)) ∈ lw_all := lw_g (lw_at lw_m6 124 rfl) rfl
theorem q1443 : (Jvm.Cond.methodLink "ElephantLineLaw" (209 : Nat) ({ cls := "ElephantLine", name := "seed", desc := "(I)Z" } : Jvm.MethodName)) ∈ lw_all := lw_g (lw_at lw_m6 128 rfl) rfl
theorem q1447 : (Jvm.Cond.methodLink "ElephantLineLaw" (213 : Nat) ({ cls := "ElephantLine", name := "undo", desc := "()Z" } : Jvm.MethodName)) ∈ lw_all := lw_g (lw_at lw_m6 132 rfl) rfl
theorem q1451 : (Jvm.Cond.methodLink "ElephantLineLaw" (218 : Nat) ({ cls := "ElephantLine", name := "mark", desc := "()I" } : Jvm.MethodName)) ∈ lw_all := lw_g (lw_at lw_m6 136 rfl) rfl
theorem q1455 : (Jvm.Cond.methodLink "ElephantLineLaw" (222 : Nat) ({ cls := "ElephantLine", name := "back", desc := "(I)Z" } : Jvm.MethodName)) ∈ lw_all := lw_g (lw_at lw_m6 140 rfl) rfl
theorem q1459 : (Jvm.Cond.methodLink "ElephantLineLaw" (235 : Nat) ({ cls := "ElephantLine", name := "size", desc := "(I)I" } : Jvm.MethodName)) ∈ lw_all := lw_g (lw_at lw_m6 144 rfl) rfl
theorem q1463 : (Jvm.Cond.methodLink "ElephantLineLaw" (239 : Nat) ({ cls := "ElephantLine", name := "trouble", desc := "()I" } : Jvm.MethodName)) ∈ lw_all := lw_g (lw_at lw_m6 148 rfl) rfl
theorem q1467 : (Jvm.Cond.methodLink "ElephantLineLaw" (226 : Nat) ({ cls := "ElephantLineLaw", name := "led", desc := "(LElephantLine;I[J)I" } : Jvm.MethodName)) ∈ lw_all := lw_g (lw_at lw_m6 152 rfl) rfl
theorem q1468 : (Jvm.Cond.static ({ cls := "ElephantLineLaw", name := "led", desc := "(LElephantLine;I[J)I" } : Jvm.MethodName)) ∈ lw_all := lw_g (lw_at lw_m6 153 rfl) rfl
theorem q1469 : (Jvm.Cond.codeWith ({ cls := "ElephantLineLaw", name := "led", desc := "(LElephantLine;I[J)I" } : Jvm.MethodName) method_3_code (4 : Nat) (Option.some Jvm.ClassFile.FieldType.int) [((0 : Nat), (9 : Nat), (12 : Nat), (13 : Nat))]) ∈ lw_all := lw_g (lw_at lw_m6 154 rfl) rfl
theorem q1470 : (Jvm.Cond.classLink "ElephantLineLaw" (13 : Nat) "java/util/NoSuchElementException") ∈ lw_all := lw_g (lw_at lw_m6 155 rfl) rfl
theorem q1471 : (Jvm.Cond.methodLink "ElephantLineLaw" (7 : Nat) ({ cls := "ElephantLine", name := "led", desc := "(I)I" } : Jvm.MethodName)) ∈ lw_all := lw_g (lw_at lw_m6 156 rfl) rfl
theorem q1496 : (Jvm.Cond.classLink "ElephantLineLaw" (16 : Nat) "ElephantLineModel") ∈ lw_all := lw_g (lw_at lw_m6 181 rfl) rfl
theorem q1498 : (Jvm.Cond.methodLink "ElephantLineLaw" (18 : Nat) ({ cls := "ElephantLineModel", name := "<init>", desc := "()V" } : Jvm.MethodName)) ∈ lw_all := lw_g (lw_at lw_m6 183 rfl) rfl
theorem q1620 : (Jvm.Cond.methodLink "ElephantLineLaw" (232 : Nat) ({ cls := "ElephantLineModel", name := "thrown", desc := "()I" } : Jvm.MethodName)) ∈ lw_all := lw_g (lw_at lw_m7 65 rfl) rfl
theorem q1624 : (Jvm.Cond.methodLink "ElephantLineLaw" (23 : Nat) ({ cls := "ElephantLineModel", name := "feed", desc := "(IIIII)I" } : Jvm.MethodName)) ∈ lw_all := lw_g (lw_at lw_m7 69 rfl) rfl
theorem q1628 : (Jvm.Cond.methodLink "ElephantLineLaw" (27 : Nat) ({ cls := "ElephantLineModel", name := "war", desc := "(I)I" } : Jvm.MethodName)) ∈ lw_all := lw_g (lw_at lw_m7 73 rfl) rfl
theorem q1869 : (Jvm.Cond.methodLink "ElephantLineLaw" (32 : Nat) ({ cls := "ElephantLineModel", name := "fault", desc := "()I" } : Jvm.MethodName)) ∈ lw_all := lw_g (lw_at lw_m8 74 rfl) rfl
theorem q1873 : (Jvm.Cond.methodLink "ElephantLineLaw" (36 : Nat) ({ cls := "ElephantLineModel", name := "where", desc := "()I" } : Jvm.MethodName)) ∈ lw_all := lw_g (lw_at lw_m8 78 rfl) rfl
theorem q1877 : (Jvm.Cond.methodLink "ElephantLineLaw" (41 : Nat) ({ cls := "ElephantLineModel", name := "lane", desc := "(II)I" } : Jvm.MethodName)) ∈ lw_all := lw_g (lw_at lw_m8 82 rfl) rfl
theorem q1889 : (Jvm.Cond.methodLink "ElephantLineLaw" (45 : Nat) ({ cls := "ElephantLineModel", name := "beast", desc := "(II)I" } : Jvm.MethodName)) ∈ lw_all := lw_g (lw_at lw_m8 94 rfl) rfl
theorem q1909 : (Jvm.Cond.methodLink "ElephantLineLaw" (50 : Nat) ({ cls := "ElephantLineModel", name := "across", desc := "(IZ)J" } : Jvm.MethodName)) ∈ lw_all := lw_g (lw_at lw_m8 114 rfl) rfl
theorem q1932 : (Jvm.Cond.methodLink "ElephantLineLaw" (55 : Nat) ({ cls := "ElephantLineModel", name := "meets", desc := "(IIZ)I" } : Jvm.MethodName)) ∈ lw_all := lw_g (lw_at lw_m8 137 rfl) rfl
theorem q1944 : (Jvm.Cond.methodLink "ElephantLineLaw" (60 : Nat) ({ cls := "ElephantLineModel", name := "mean", desc := "(IIZZ)J" } : Jvm.MethodName)) ∈ lw_all := lw_g (lw_at lw_m8 149 rfl) rfl
theorem q1952 : (Jvm.Cond.methodLink "ElephantLineLaw" (65 : Nat) ({ cls := "ElephantLineModel", name := "worth", desc := "(IIZ)J" } : Jvm.MethodName)) ∈ lw_all := lw_g (lw_at lw_m8 157 rfl) rfl
theorem q1969 : (Jvm.Cond.methodLink "ElephantLineLaw" (82 : Nat) ({ cls := "ElephantLineModel", name := "worthIf", desc := "(IIZZ)J" } : Jvm.MethodName)) ∈ lw_all := lw_g (lw_at lw_m8 174 rfl) rfl
theorem q1977 : (Jvm.Cond.methodLink "ElephantLineLaw" (86 : Nat) ({ cls := "ElephantLineModel", name := "moodFor", desc := "(II)I" } : Jvm.MethodName)) ∈ lw_all := lw_g (lw_at lw_m8 182 rfl) rfl
theorem q1981 : (Jvm.Cond.methodLink "ElephantLineLaw" (90 : Nat) ({ cls := "ElephantLineModel", name := "toHammer", desc := "()I" } : Jvm.MethodName)) ∈ lw_all := lw_g (lw_at lw_m8 186 rfl) rfl
theorem q1985 : (Jvm.Cond.methodLink "ElephantLineLaw" (69 : Nat) ({ cls := "ElephantLineModel", name := "bestLane", desc := "(I)I" } : Jvm.MethodName)) ∈ lw_all := lw_g (lw_at lw_m8 190 rfl) rfl
theorem q1989 : (Jvm.Cond.methodLink "ElephantLineLaw" (74 : Nat) ({ cls := "ElephantLineModel", name := "all", desc := "(ZZ)J" } : Jvm.MethodName)) ∈ lw_all := lw_g (lw_at lw_m8 194 rfl) rfl
theorem q1997 : (Jvm.Cond.methodLink "ElephantLineLaw" (78 : Nat) ({ cls := "ElephantLineModel", name := "worst", desc := "()I" } : Jvm.MethodName)) ∈ lw_all := lw_g (lw_at lw_m8 202 rfl) rfl
theorem q2001 : (Jvm.Cond.methodLink "ElephantLineLaw" (94 : Nat) ({ cls := "ElephantLineModel", name := "place", desc := "(I)I" } : Jvm.MethodName)) ∈ lw_all := lw_g (lw_at lw_m8 206 rfl) rfl
theorem q2021 : (Jvm.Cond.methodLink "ElephantLineLaw" (99 : Nat) ({ cls := "ElephantLineModel", name := "placed", desc := "(Z)J" } : Jvm.MethodName)) ∈ lw_all := lw_g (lw_at lw_m8 226 rfl) rfl
theorem q2025 : (Jvm.Cond.methodLink "ElephantLineLaw" (103 : Nat) ({ cls := "ElephantLineModel", name := "out", desc := "()I" } : Jvm.MethodName)) ∈ lw_all := lw_g (lw_at lw_m8 230 rfl) rfl
theorem q2029 : (Jvm.Cond.methodLink "ElephantLineLaw" (107 : Nat) ({ cls := "ElephantLineModel", name := "toOpen", desc := "()I" } : Jvm.MethodName)) ∈ lw_all := lw_g (lw_at lw_m8 234 rfl) rfl
theorem q2037 : (Jvm.Cond.methodLink "ElephantLineLaw" (111 : Nat) ({ cls := "ElephantLineModel", name := "rests", desc := "(I)I" } : Jvm.MethodName)) ∈ lw_all := lw_g (lw_at lw_m9 2 rfl) rfl
theorem q2049 : (Jvm.Cond.methodLink "ElephantLineLaw" (115 : Nat) ({ cls := "ElephantLineModel", name := "rest", desc := "(I)I" } : Jvm.MethodName)) ∈ lw_all := lw_g (lw_at lw_m9 14 rfl) rfl
theorem q2053 : (Jvm.Cond.methodLink "ElephantLineLaw" (119 : Nat) ({ cls := "ElephantLineModel", name := "weeks", desc := "(I)I" } : Jvm.MethodName)) ∈ lw_all := lw_g (lw_at lw_m9 18 rfl) rfl
theorem q2057 : (Jvm.Cond.methodLink "ElephantLineLaw" (123 : Nat) ({ cls := "ElephantLineModel", name := "sale", desc := "(I)I" } : Jvm.MethodName)) ∈ lw_all := lw_g (lw_at lw_m9 22 rfl) rfl
theorem q2072 : (Jvm.Cond.methodLink "ElephantLineLaw" (127 : Nat) ({ cls := "ElephantLineModel", name := "saleOver", desc := "(I)I" } : Jvm.MethodName)) ∈ lw_all := lw_g (lw_at lw_m9 37 rfl) rfl
theorem q2076 : (Jvm.Cond.methodLink "ElephantLineLaw" (132 : Nat) ({ cls := "ElephantLineModel", name := "march", desc := "(III)I" } : Jvm.MethodName)) ∈ lw_all := lw_g (lw_at lw_m9 41 rfl) rfl
theorem q2099 : (Jvm.Cond.methodLink "ElephantLineLaw" (137 : Nat) ({ cls := "ElephantLineModel", name := "marchAt", desc := "(IIII)I" } : Jvm.MethodName)) ∈ lw_all := lw_g (lw_at lw_m9 64 rfl) rfl
theorem q2103 : (Jvm.Cond.methodLink "ElephantLineLaw" (141 : Nat) ({ cls := "ElephantLineModel", name := "reach", desc := "(I)I" } : Jvm.MethodName)) ∈ lw_all := lw_g (lw_at lw_m9 68 rfl) rfl
theorem q2107 : (Jvm.Cond.methodLink "ElephantLineLaw" (145 : Nat) ({ cls := "ElephantLineModel", name := "worstPass", desc := "(III)I" } : Jvm.MethodName)) ∈ lw_all := lw_g (lw_at lw_m9 72 rfl) rfl
theorem q2111 : (Jvm.Cond.methodLink "ElephantLineLaw" (149 : Nat) ({ cls := "ElephantLineModel", name := "setOut", desc := "(III)I" } : Jvm.MethodName)) ∈ lw_all := lw_g (lw_at lw_m9 76 rfl) rfl
theorem q2115 : (Jvm.Cond.methodLink "ElephantLineLaw" (153 : Nat) ({ cls := "ElephantLineModel", name := "fits", desc := "()I" } : Jvm.MethodName)) ∈ lw_all := lw_g (lw_at lw_m9 80 rfl) rfl
theorem q2127 : (Jvm.Cond.methodLink "ElephantLineLaw" (157 : Nat) ({ cls := "ElephantLineModel", name := "could", desc := "()I" } : Jvm.MethodName)) ∈ lw_all := lw_g (lw_at lw_m9 92 rfl) rfl
theorem q2131 : (Jvm.Cond.methodLink "ElephantLineLaw" (161 : Nat) ({ cls := "ElephantLineModel", name := "surely", desc := "()I" } : Jvm.MethodName)) ∈ lw_all := lw_g (lw_at lw_m9 96 rfl) rfl
theorem q2135 : (Jvm.Cond.methodLink "ElephantLineLaw" (165 : Nat) ({ cls := "ElephantLineModel", name := "ask", desc := "()I" } : Jvm.MethodName)) ∈ lw_all := lw_g (lw_at lw_m9 100 rfl) rfl
theorem q2143 : (Jvm.Cond.methodLink "ElephantLineLaw" (169 : Nat) ({ cls := "ElephantLineModel", name := "turnedBy", desc := "(I)I" } : Jvm.MethodName)) ∈ lw_all := lw_g (lw_at lw_m9 108 rfl) rfl
theorem q2147 : (Jvm.Cond.methodLink "ElephantLineLaw" (173 : Nat) ({ cls := "ElephantLineModel", name := "battles", desc := "(IIZ)I" } : Jvm.MethodName)) ∈ lw_all := lw_g (lw_at lw_m9 112 rfl) rfl
theorem q2175 : (Jvm.Cond.methodLink "ElephantLineLaw" (177 : Nat) ({ cls := "ElephantLineModel", name := "won", desc := "(II)I" } : Jvm.MethodName)) ∈ lw_all := lw_g (lw_at lw_m9 140 rfl) rfl
theorem q2179 : (Jvm.Cond.methodLink "ElephantLineLaw" (181 : Nat) ({ cls := "ElephantLineModel", name := "acrossIn", desc := "(III)I" } : Jvm.MethodName)) ∈ lw_all := lw_g (lw_at lw_m9 144 rfl) rfl
theorem q2183 : (Jvm.Cond.methodLink "ElephantLineLaw" (186 : Nat) ({ cls := "ElephantLineModel", name := "move", desc := "(II)Z" } : Jvm.MethodName)) ∈ lw_all := lw_g (lw_at lw_m9 148 rfl) rfl
theorem q2199 : (Jvm.Cond.methodLink "ElephantLineLaw" (190 : Nat) ({ cls := "ElephantLineModel", name := "wound", desc := "(II)I" } : Jvm.MethodName)) ∈ lw_all := lw_g (lw_at lw_m9 164 rfl) rfl
theorem q2203 : (Jvm.Cond.methodLink "ElephantLineLaw" (195 : Nat) ({ cls := "ElephantLineModel", name := "hammer", desc := "(I)Z" } : Jvm.MethodName)) ∈ lw_all := lw_g (lw_at lw_m9 168 rfl) rfl
theorem q2207 : (Jvm.Cond.methodLink "ElephantLineLaw" (199 : Nat) ({ cls := "ElephantLineModel", name := "teach", desc := "(II)I" } : Jvm.MethodName)) ∈ lw_all := lw_g (lw_at lw_m9 172 rfl) rfl
theorem q2211 : (Jvm.Cond.methodLink "ElephantLineLaw" (204 : Nat) ({ cls := "ElephantLineModel", name := "rain", desc := "(Z)Z" } : Jvm.MethodName)) ∈ lw_all := lw_g (lw_at lw_m9 176 rfl) rfl
theorem q2215 : (Jvm.Cond.methodLink "ElephantLineLaw" (208 : Nat) ({ cls := "ElephantLineModel", name := "battle", desc := "()I" } : Jvm.MethodName)) ∈ lw_all := lw_g (lw_at lw_m9 180 rfl) rfl
theorem q2219 : (Jvm.Cond.methodLink "ElephantLineLaw" (212 : Nat) ({ cls := "ElephantLineModel", name := "seed", desc := "(I)Z" } : Jvm.MethodName)) ∈ lw_all := lw_g (lw_at lw_m9 184 rfl) rfl
theorem q2223 : (Jvm.Cond.methodLink "ElephantLineLaw" (217 : Nat) ({ cls := "ElephantLineModel", name := "undo", desc := "()Z" } : Jvm.MethodName)) ∈ lw_all := lw_g (lw_at lw_m9 188 rfl) rfl
theorem q2227 : (Jvm.Cond.methodLink "ElephantLineLaw" (221 : Nat) ({ cls := "ElephantLineModel", name := "mark", desc := "()I" } : Jvm.MethodName)) ∈ lw_all := lw_g (lw_at lw_m9 192 rfl) rfl
theorem q2231 : (Jvm.Cond.methodLink "ElephantLineLaw" (225 : Nat) ({ cls := "ElephantLineModel", name := "back", desc := "(I)Z" } : Jvm.MethodName)) ∈ lw_all := lw_g (lw_at lw_m9 196 rfl) rfl
theorem q2235 : (Jvm.Cond.methodLink "ElephantLineLaw" (231 : Nat) ({ cls := "ElephantLineModel", name := "led", desc := "(I)I" } : Jvm.MethodName)) ∈ lw_all := lw_g (lw_at lw_m9 200 rfl) rfl
theorem q2239 : (Jvm.Cond.methodLink "ElephantLineLaw" (238 : Nat) ({ cls := "ElephantLineModel", name := "size", desc := "(I)I" } : Jvm.MethodName)) ∈ lw_all := lw_g (lw_at lw_m9 204 rfl) rfl
theorem q2243 : (Jvm.Cond.methodLink "ElephantLineLaw" (242 : Nat) ({ cls := "ElephantLineModel", name := "trouble", desc := "()I" } : Jvm.MethodName)) ∈ lw_all := lw_g (lw_at lw_m9 208 rfl) rfl
/-! ElephantLine$Reader -/
set_option maxRecDepth 100000
def RX2 : String := "ElephantLine$Reader"
def TX2 : u_T := fun k => match k with
  | 0 => ("ElephantLine$Reader", "wrong", "LElephantLine$Refused;", true)
  | 1 => ("ElephantLine$Reader", "text", "[B", true)
  | 2 => ("ElephantLine$Reader", "letters", "[C", true)
  | 3 => ("ElephantLine$Reader", "size", "I", false)
  | 4 => ("ElephantLine$Reader", "end", "I", false)
  | 5 => ("ElephantLine$Reader", "token", "I", false)
  | 6 => ("ElephantLine$Reader", "at", "I", false)
  | 7 => ("ElephantLine$Reader", "whole", "I", false)
  | 8 => ("ElephantLine$Reader", "word", "Ljava/lang/String;", false)
  | _ => ("ElephantLine$Reader", "war", "LElephantLine$War;", false)
def tyX2 : Nat → FieldType := fun k => match k with
  | 0 => .object "ElephantLine$Refused"
  | 1 => .array .byte
  | 2 => .array .char
  | 3 => .int
  | 4 => .int
  | 5 => .int
  | 6 => .int
  | 7 => .int
  | 8 => .object "java/lang/String"
  | _ => .object "ElephantLine$War"
abbrev wsX20 : List Cond := u_ws RX2 TX2 10
theorem nmX2 : ∀ a, a < 10 → ∀ b, b < 10 → a ≠ b → (TX2 a).2.1 ≠ (TX2 b).2.1 := by decide +kernel
theorem tyX2_ok : ∀ k, k < 10 → parseFieldDescriptor (TX2 k).2.2.1 = some (tyX2 k) := by decide +kernel
abbrev cX2_init : ByteArray := prog_15_method_1_code
def yX2_init : MethodName := ⟨RX2, "<init>", "([B)V"⟩
def dkwX2_init_1 : List UInt8 := [43, 181, 0, 22, 177]
abbrev dktX2_init_1 : List UInt8 := dkwX2_init_1 ++ []
def dkwX2_init_0 : List UInt8 := [42, 183, 0, 3, 42, 187, 0, 9, 89, 183, 0, 11, 181, 0, 12, 42, 16, 8, 188, 5, 181, 0, 18, 42]
abbrev dktX2_init_0 : List UInt8 := dkwX2_init_0 ++ dktX2_init_1
theorem dksX2_init_0 : cX2_init.data.toList.drop 0 = dktX2_init_0 := by decide +kernel
theorem dksX2_init_1 : cX2_init.data.toList.drop 24 = dktX2_init_1 := dk_seg dksX2_init_0 24 rfl rfl
theorem dX2_init_0 : decode cX2_init 0 = .ok (.aload_n 0, 1) := dk_42 (dk_at dksX2_init_0 0 rfl rfl)
theorem dX2_init_1 : decode cX2_init 1 = .ok (.invokespecial 3, 3) := dk_183 0 3 (dk_at dksX2_init_0 1 rfl rfl)
theorem dX2_init_4 : decode cX2_init 4 = .ok (.aload_n 0, 1) := dk_42 (dk_at dksX2_init_0 4 rfl rfl)
theorem dX2_init_5 : decode cX2_init 5 = .ok (.new 9, 3) := dk_187 0 9 (dk_at dksX2_init_0 5 rfl rfl)
theorem dX2_init_8 : decode cX2_init 8 = .ok (.dup, 1) := dk_89 (dk_at dksX2_init_0 8 rfl rfl)
theorem dX2_init_9 : decode cX2_init 9 = .ok (.invokespecial 11, 3) := dk_183 0 11 (dk_at dksX2_init_0 9 rfl rfl)
theorem dX2_init_12 : decode cX2_init 12 = .ok (.putfield 12, 3) := dk_181 0 12 (dk_at dksX2_init_0 12 rfl rfl)
theorem dX2_init_15 : decode cX2_init 15 = .ok (.aload_n 0, 1) := dk_42 (dk_at dksX2_init_0 15 rfl rfl)
theorem dX2_init_16 : decode cX2_init 16 = .ok (.bipush 8, 2) := dk_16 8 (dk_at dksX2_init_0 16 rfl rfl)
theorem dX2_init_18 : decode cX2_init 18 = .ok (.newarray .char, 2) := dk_188_5 (dk_at dksX2_init_0 18 rfl rfl)
theorem dX2_init_20 : decode cX2_init 20 = .ok (.putfield 18, 3) := dk_181 0 18 (dk_at dksX2_init_0 20 rfl rfl)
theorem dX2_init_23 : decode cX2_init 23 = .ok (.aload_n 0, 1) := dk_42 (dk_at dksX2_init_0 23 rfl rfl)
theorem dX2_init_24 : decode cX2_init 24 = .ok (.aload_n 1, 1) := dk_43 (dk_at dksX2_init_1 0 rfl rfl)
theorem dX2_init_25 : decode cX2_init 25 = .ok (.putfield 22, 3) := dk_181 0 22 (dk_at dksX2_init_1 1 rfl rfl)
theorem dX2_init_28 : decode cX2_init 28 = .ok (.return_, 1) := dk_177 (dk_at dksX2_init_1 4 rfl rfl)
abbrev cX2_read : ByteArray := prog_15_method_16_code
def yX2_read : MethodName := ⟨RX2, "read", "(I)LElephantLine$War;"⟩
def dkwX2_read_6 : List UInt8 := [180, 0, 105, 176]
abbrev dktX2_read_6 : List UInt8 := dkwX2_read_6 ++ []
def dkwX2_read_5 : List UInt8 := [180, 0, 105, 180, 0, 142, 28, 187, 0, 146, 89, 183, 0, 148, 83, 132, 2, 1, 167, 255, 214, 42]
abbrev dktX2_read_5 : List UInt8 := dkwX2_read_5 ++ dktX2_read_6
def dkwX2_read_4 : List UInt8 := [180, 0, 105, 180, 0, 132, 162, 0, 37, 42, 180, 0, 105, 180, 0, 142, 28, 50, 199, 0, 19, 42]
abbrev dktX2_read_4 : List UInt8 := dkwX2_read_4 ++ dktX2_read_5
def dkwX2_read_3 : List UInt8 := [153, 0, 13, 42, 180, 0, 105, 180, 0, 139, 154, 0, 10, 42, 16, 6, 182, 0, 82, 191, 3, 61, 28, 42]
abbrev dktX2_read_3 : List UInt8 := dkwX2_read_3 ++ dktX2_read_4
def dkwX2_read_2 : List UInt8 := [167, 255, 239, 42, 180, 0, 47, 153, 0, 9, 42, 4, 182, 0, 82, 191, 42, 180, 0, 105, 180, 0, 132]
abbrev dktX2_read_2 : List UInt8 := dkwX2_read_2 ++ dktX2_read_3
def dkwX2_read_1 : List UInt8 := [182, 0, 75, 42, 182, 0, 136, 42, 180, 0, 47, 16, 59, 160, 0, 14, 42, 182, 0, 75, 42, 182, 0, 136]
abbrev dktX2_read_1 : List UInt8 := dkwX2_read_1 ++ dktX2_read_2
def dkwX2_read_0 : List UInt8 := [42, 27, 181, 0, 33, 42, 3, 181, 0, 40, 42, 187, 0, 110, 89, 183, 0, 135, 181, 0, 105, 42]
abbrev dktX2_read_0 : List UInt8 := dkwX2_read_0 ++ dktX2_read_1
theorem dksX2_read_0 : cX2_read.data.toList.drop 0 = dktX2_read_0 := by decide +kernel
theorem dksX2_read_1 : cX2_read.data.toList.drop 22 = dktX2_read_1 := dk_seg dksX2_read_0 22 rfl rfl
theorem dksX2_read_2 : cX2_read.data.toList.drop 46 = dktX2_read_2 := dk_seg dksX2_read_1 24 rfl rfl
theorem dksX2_read_3 : cX2_read.data.toList.drop 69 = dktX2_read_3 := dk_seg dksX2_read_2 23 rfl rfl
theorem dksX2_read_4 : cX2_read.data.toList.drop 93 = dktX2_read_4 := dk_seg dksX2_read_3 24 rfl rfl
theorem dksX2_read_5 : cX2_read.data.toList.drop 115 = dktX2_read_5 := dk_seg dksX2_read_4 22 rfl rfl
theorem dksX2_read_6 : cX2_read.data.toList.drop 137 = dktX2_read_6 := dk_seg dksX2_read_5 22 rfl rfl
theorem dX2_read_0 : decode cX2_read 0 = .ok (.aload_n 0, 1) := dk_42 (dk_at dksX2_read_0 0 rfl rfl)
theorem dX2_read_1 : decode cX2_read 1 = .ok (.iload_n 1, 1) := dk_27 (dk_at dksX2_read_0 1 rfl rfl)
theorem dX2_read_2 : decode cX2_read 2 = .ok (.putfield 33, 3) := dk_181 0 33 (dk_at dksX2_read_0 2 rfl rfl)
theorem dX2_read_5 : decode cX2_read 5 = .ok (.aload_n 0, 1) := dk_42 (dk_at dksX2_read_0 5 rfl rfl)
theorem dX2_read_6 : decode cX2_read 6 = .ok (.iconst 0, 1) := dk_3 (dk_at dksX2_read_0 6 rfl rfl)
theorem dX2_read_7 : decode cX2_read 7 = .ok (.putfield 40, 3) := dk_181 0 40 (dk_at dksX2_read_0 7 rfl rfl)
theorem dX2_read_10 : decode cX2_read 10 = .ok (.aload_n 0, 1) := dk_42 (dk_at dksX2_read_0 10 rfl rfl)
theorem dX2_read_11 : decode cX2_read 11 = .ok (.new 110, 3) := dk_187 0 110 (dk_at dksX2_read_0 11 rfl rfl)
theorem dX2_read_14 : decode cX2_read 14 = .ok (.dup, 1) := dk_89 (dk_at dksX2_read_0 14 rfl rfl)
theorem dX2_read_15 : decode cX2_read 15 = .ok (.invokespecial 135, 3) := dk_183 0 135 (dk_at dksX2_read_0 15 rfl rfl)
theorem dX2_read_18 : decode cX2_read 18 = .ok (.putfield 105, 3) := dk_181 0 105 (dk_at dksX2_read_0 18 rfl rfl)
theorem dX2_read_21 : decode cX2_read 21 = .ok (.aload_n 0, 1) := dk_42 (dk_at dksX2_read_0 21 rfl rfl)
theorem dX2_read_22 : decode cX2_read 22 = .ok (.invokevirtual 75, 3) := dk_182 0 75 (dk_at dksX2_read_1 0 rfl rfl)
theorem dX2_read_25 : decode cX2_read 25 = .ok (.aload_n 0, 1) := dk_42 (dk_at dksX2_read_1 3 rfl rfl)
theorem dX2_read_26 : decode cX2_read 26 = .ok (.invokevirtual 136, 3) := dk_182 0 136 (dk_at dksX2_read_1 4 rfl rfl)
theorem dX2_read_29 : decode cX2_read 29 = .ok (.aload_n 0, 1) := dk_42 (dk_at dksX2_read_1 7 rfl rfl)
theorem dX2_read_30 : decode cX2_read 30 = .ok (.getfield 47, 3) := dk_180 0 47 (dk_at dksX2_read_1 8 rfl rfl)
theorem dX2_read_33 : decode cX2_read 33 = .ok (.bipush 59, 2) := dk_16 59 (dk_at dksX2_read_1 11 rfl rfl)
theorem dX2_read_35 : decode cX2_read 35 = .ok (.if_icmp .ne 14, 3) := dk_160 0 14 (dk_at dksX2_read_1 13 rfl rfl)
theorem dX2_read_38 : decode cX2_read 38 = .ok (.aload_n 0, 1) := dk_42 (dk_at dksX2_read_1 16 rfl rfl)
theorem dX2_read_39 : decode cX2_read 39 = .ok (.invokevirtual 75, 3) := dk_182 0 75 (dk_at dksX2_read_1 17 rfl rfl)
theorem dX2_read_42 : decode cX2_read 42 = .ok (.aload_n 0, 1) := dk_42 (dk_at dksX2_read_1 20 rfl rfl)
theorem dX2_read_43 : decode cX2_read 43 = .ok (.invokevirtual 136, 3) := dk_182 0 136 (dk_at dksX2_read_1 21 rfl rfl)
theorem dX2_read_46 : decode cX2_read 46 = .ok (.goto (-17), 3) := dk_167 255 239 (dk_at dksX2_read_2 0 rfl rfl)
theorem dX2_read_49 : decode cX2_read 49 = .ok (.aload_n 0, 1) := dk_42 (dk_at dksX2_read_2 3 rfl rfl)
theorem dX2_read_50 : decode cX2_read 50 = .ok (.getfield 47, 3) := dk_180 0 47 (dk_at dksX2_read_2 4 rfl rfl)
theorem dX2_read_53 : decode cX2_read 53 = .ok (.ifCond .eq 9, 3) := dk_153 0 9 (dk_at dksX2_read_2 7 rfl rfl)
theorem dX2_read_56 : decode cX2_read 56 = .ok (.aload_n 0, 1) := dk_42 (dk_at dksX2_read_2 10 rfl rfl)
theorem dX2_read_57 : decode cX2_read 57 = .ok (.iconst 1, 1) := dk_4 (dk_at dksX2_read_2 11 rfl rfl)
theorem dX2_read_58 : decode cX2_read 58 = .ok (.invokevirtual 82, 3) := dk_182 0 82 (dk_at dksX2_read_2 12 rfl rfl)
theorem dX2_read_61 : decode cX2_read 61 = .ok (.athrow, 1) := dk_191 (dk_at dksX2_read_2 15 rfl rfl)
theorem dX2_read_62 : decode cX2_read 62 = .ok (.aload_n 0, 1) := dk_42 (dk_at dksX2_read_2 16 rfl rfl)
theorem dX2_read_63 : decode cX2_read 63 = .ok (.getfield 105, 3) := dk_180 0 105 (dk_at dksX2_read_2 17 rfl rfl)
theorem dX2_read_66 : decode cX2_read 66 = .ok (.getfield 132, 3) := dk_180 0 132 (dk_at dksX2_read_2 20 rfl rfl)
theorem dX2_read_69 : decode cX2_read 69 = .ok (.ifCond .eq 13, 3) := dk_153 0 13 (dk_at dksX2_read_3 0 rfl rfl)
theorem dX2_read_72 : decode cX2_read 72 = .ok (.aload_n 0, 1) := dk_42 (dk_at dksX2_read_3 3 rfl rfl)
theorem dX2_read_73 : decode cX2_read 73 = .ok (.getfield 105, 3) := dk_180 0 105 (dk_at dksX2_read_3 4 rfl rfl)
theorem dX2_read_76 : decode cX2_read 76 = .ok (.getfield 139, 3) := dk_180 0 139 (dk_at dksX2_read_3 7 rfl rfl)
theorem dX2_read_79 : decode cX2_read 79 = .ok (.ifCond .ne 10, 3) := dk_154 0 10 (dk_at dksX2_read_3 10 rfl rfl)
theorem dX2_read_82 : decode cX2_read 82 = .ok (.aload_n 0, 1) := dk_42 (dk_at dksX2_read_3 13 rfl rfl)
theorem dX2_read_83 : decode cX2_read 83 = .ok (.bipush 6, 2) := dk_16 6 (dk_at dksX2_read_3 14 rfl rfl)
theorem dX2_read_85 : decode cX2_read 85 = .ok (.invokevirtual 82, 3) := dk_182 0 82 (dk_at dksX2_read_3 16 rfl rfl)
theorem dX2_read_88 : decode cX2_read 88 = .ok (.athrow, 1) := dk_191 (dk_at dksX2_read_3 19 rfl rfl)
theorem dX2_read_89 : decode cX2_read 89 = .ok (.iconst 0, 1) := dk_3 (dk_at dksX2_read_3 20 rfl rfl)
theorem dX2_read_90 : decode cX2_read 90 = .ok (.istore_n 2, 1) := dk_61 (dk_at dksX2_read_3 21 rfl rfl)
theorem dX2_read_91 : decode cX2_read 91 = .ok (.iload_n 2, 1) := dk_28 (dk_at dksX2_read_3 22 rfl rfl)
theorem dX2_read_92 : decode cX2_read 92 = .ok (.aload_n 0, 1) := dk_42 (dk_at dksX2_read_3 23 rfl rfl)
theorem dX2_read_93 : decode cX2_read 93 = .ok (.getfield 105, 3) := dk_180 0 105 (dk_at dksX2_read_4 0 rfl rfl)
theorem dX2_read_96 : decode cX2_read 96 = .ok (.getfield 132, 3) := dk_180 0 132 (dk_at dksX2_read_4 3 rfl rfl)
theorem dX2_read_99 : decode cX2_read 99 = .ok (.if_icmp .ge 37, 3) := dk_162 0 37 (dk_at dksX2_read_4 6 rfl rfl)
theorem dX2_read_102 : decode cX2_read 102 = .ok (.aload_n 0, 1) := dk_42 (dk_at dksX2_read_4 9 rfl rfl)
theorem dX2_read_103 : decode cX2_read 103 = .ok (.getfield 105, 3) := dk_180 0 105 (dk_at dksX2_read_4 10 rfl rfl)
theorem dX2_read_106 : decode cX2_read 106 = .ok (.getfield 142, 3) := dk_180 0 142 (dk_at dksX2_read_4 13 rfl rfl)
theorem dX2_read_109 : decode cX2_read 109 = .ok (.iload_n 2, 1) := dk_28 (dk_at dksX2_read_4 16 rfl rfl)
theorem dX2_read_110 : decode cX2_read 110 = .ok (.aaload, 1) := dk_50 (dk_at dksX2_read_4 17 rfl rfl)
theorem dX2_read_111 : decode cX2_read 111 = .ok (.ifnonnull 19, 3) := dk_199 0 19 (dk_at dksX2_read_4 18 rfl rfl)
theorem dX2_read_114 : decode cX2_read 114 = .ok (.aload_n 0, 1) := dk_42 (dk_at dksX2_read_4 21 rfl rfl)
theorem dX2_read_115 : decode cX2_read 115 = .ok (.getfield 105, 3) := dk_180 0 105 (dk_at dksX2_read_5 0 rfl rfl)
theorem dX2_read_118 : decode cX2_read 118 = .ok (.getfield 142, 3) := dk_180 0 142 (dk_at dksX2_read_5 3 rfl rfl)
theorem dX2_read_121 : decode cX2_read 121 = .ok (.iload_n 2, 1) := dk_28 (dk_at dksX2_read_5 6 rfl rfl)
theorem dX2_read_122 : decode cX2_read 122 = .ok (.new 146, 3) := dk_187 0 146 (dk_at dksX2_read_5 7 rfl rfl)
theorem dX2_read_125 : decode cX2_read 125 = .ok (.dup, 1) := dk_89 (dk_at dksX2_read_5 10 rfl rfl)
theorem dX2_read_126 : decode cX2_read 126 = .ok (.invokespecial 148, 3) := dk_183 0 148 (dk_at dksX2_read_5 11 rfl rfl)
theorem dX2_read_129 : decode cX2_read 129 = .ok (.aastore, 1) := dk_83 (dk_at dksX2_read_5 14 rfl rfl)
theorem dX2_read_130 : decode cX2_read 130 = .ok (.iinc 2 1, 3) := dk_132 2 1 (dk_at dksX2_read_5 15 rfl rfl)
theorem dX2_read_133 : decode cX2_read 133 = .ok (.goto (-42), 3) := dk_167 255 214 (dk_at dksX2_read_5 18 rfl rfl)
theorem dX2_read_136 : decode cX2_read 136 = .ok (.aload_n 0, 1) := dk_42 (dk_at dksX2_read_5 21 rfl rfl)
theorem dX2_read_137 : decode cX2_read 137 = .ok (.getfield 105, 3) := dk_180 0 105 (dk_at dksX2_read_6 0 rfl rfl)
theorem dX2_read_140 : decode cX2_read 140 = .ok (.areturn, 1) := dk_176 (dk_at dksX2_read_6 3 rfl rfl)
abbrev cX2_next : ByteArray := prog_15_method_6_code
def yX2_next : MethodName := ⟨RX2, "next", "()V"⟩
def dkwX2_next_12 : List UInt8 := [181, 0, 47, 167, 0, 18, 42, 28, 16, 59, 160, 0, 7, 28, 167, 0, 4, 4, 181, 0, 47, 177]
abbrev dktX2_next_12 : List UInt8 := dkwX2_next_12 ++ []
def dkwX2_next_11 : List UInt8 := [181, 0, 40, 167, 255, 199, 42, 42, 180, 0, 40, 27, 100, 6, 164, 0, 7, 4, 167, 0, 4, 6]
abbrev dktX2_next_11 : List UInt8 := dkwX2_next_11 ++ dktX2_next_12
def dkwX2_next_10 : List UInt8 := [42, 42, 180, 0, 40, 182, 0, 43, 96, 16, 48, 100, 181, 0, 68, 42, 89, 180, 0, 40, 4, 96]
abbrev dktX2_next_10 : List UInt8 := dkwX2_next_10 ++ dktX2_next_11
def dkwX2_next_9 : List UInt8 := [184, 0, 65, 153, 0, 49, 42, 180, 0, 40, 27, 100, 6, 162, 0, 26, 42, 16, 10, 42, 180, 0, 68, 104]
abbrev dktX2_next_9 : List UInt8 := dkwX2_next_9 ++ dktX2_next_10
def dkwX2_next_8 : List UInt8 := [184, 0, 65, 153, 0, 95, 42, 3, 181, 0, 68, 42, 27, 181, 0, 40, 42, 42, 180, 0, 40, 182, 0, 43]
abbrev dktX2_next_8 : List UInt8 := dkwX2_next_8 ++ dktX2_next_9
def dkwX2_next_7 : List UInt8 := [3, 42, 180, 0, 40, 27, 100, 183, 0, 56, 167, 0, 5, 18, 59, 181, 0, 61, 167, 0, 117, 28]
abbrev dktX2_next_7 : List UInt8 := dkwX2_next_7 ++ dktX2_next_8
def dkwX2_next_6 : List UInt8 := [167, 0, 4, 5, 181, 0, 47, 42, 42, 180, 0, 47, 5, 160, 0, 24, 187, 0, 54, 89, 42, 180, 0, 18]
abbrev dktX2_next_6 : List UInt8 := dkwX2_next_6 ++ dktX2_next_7
def dkwX2_next_5 : List UInt8 := [180, 0, 40, 4, 96, 181, 0, 40, 167, 255, 201, 42, 42, 180, 0, 40, 27, 100, 16, 8, 164, 0, 7, 4]
abbrev dktX2_next_5 : List UInt8 := dkwX2_next_5 ++ dktX2_next_6
def dkwX2_next_4 : List UInt8 := [42, 180, 0, 18, 42, 180, 0, 40, 27, 100, 42, 42, 180, 0, 40, 182, 0, 43, 146, 85, 42, 89]
abbrev dktX2_next_4 : List UInt8 := dkwX2_next_4 ++ dktX2_next_5
def dkwX2_next_3 : List UInt8 := [42, 180, 0, 40, 182, 0, 43, 184, 0, 50, 153, 0, 47, 42, 180, 0, 40, 27, 100, 16, 8, 162, 0, 23]
abbrev dktX2_next_3 : List UInt8 := dkwX2_next_3 ++ dktX2_next_4
def dkwX2_next_2 : List UInt8 := [181, 0, 47, 42, 27, 181, 0, 40, 167, 0, 245, 28, 184, 0, 50, 153, 0, 124, 42, 27, 181, 0, 40, 42]
abbrev dktX2_next_2 : List UInt8 := dkwX2_next_2 ++ dktX2_next_3
def dkwX2_next_1 : List UInt8 := [181, 0, 26, 42, 27, 4, 96, 181, 0, 40, 42, 27, 182, 0, 43, 61, 28, 2, 160, 0, 16, 42, 3]
abbrev dktX2_next_1 : List UInt8 := dkwX2_next_1 ++ dktX2_next_2
def dkwX2_next_0 : List UInt8 := [42, 180, 0, 40, 60, 42, 27, 182, 0, 43, 16, 32, 160, 0, 9, 132, 1, 1, 167, 255, 243, 42, 27]
abbrev dktX2_next_0 : List UInt8 := dkwX2_next_0 ++ dktX2_next_1
theorem dksX2_next_0 : cX2_next.data.toList.drop 0 = dktX2_next_0 := by decide +kernel
theorem dksX2_next_1 : cX2_next.data.toList.drop 23 = dktX2_next_1 := dk_seg dksX2_next_0 23 rfl rfl
theorem dksX2_next_2 : cX2_next.data.toList.drop 46 = dktX2_next_2 := dk_seg dksX2_next_1 23 rfl rfl
theorem dksX2_next_3 : cX2_next.data.toList.drop 70 = dktX2_next_3 := dk_seg dksX2_next_2 24 rfl rfl
theorem dksX2_next_4 : cX2_next.data.toList.drop 94 = dktX2_next_4 := dk_seg dksX2_next_3 24 rfl rfl
theorem dksX2_next_5 : cX2_next.data.toList.drop 116 = dktX2_next_5 := dk_seg dksX2_next_4 22 rfl rfl
theorem dksX2_next_6 : cX2_next.data.toList.drop 140 = dktX2_next_6 := dk_seg dksX2_next_5 24 rfl rfl
theorem dksX2_next_7 : cX2_next.data.toList.drop 164 = dktX2_next_7 := dk_seg dksX2_next_6 24 rfl rfl
theorem dksX2_next_8 : cX2_next.data.toList.drop 186 = dktX2_next_8 := dk_seg dksX2_next_7 22 rfl rfl
theorem dksX2_next_9 : cX2_next.data.toList.drop 210 = dktX2_next_9 := dk_seg dksX2_next_8 24 rfl rfl
theorem dksX2_next_10 : cX2_next.data.toList.drop 234 = dktX2_next_10 := dk_seg dksX2_next_9 24 rfl rfl
theorem dksX2_next_11 : cX2_next.data.toList.drop 256 = dktX2_next_11 := dk_seg dksX2_next_10 22 rfl rfl
theorem dksX2_next_12 : cX2_next.data.toList.drop 278 = dktX2_next_12 := dk_seg dksX2_next_11 22 rfl rfl
theorem dX2_next_0 : decode cX2_next 0 = .ok (.aload_n 0, 1) := dk_42 (dk_at dksX2_next_0 0 rfl rfl)
theorem dX2_next_1 : decode cX2_next 1 = .ok (.getfield 40, 3) := dk_180 0 40 (dk_at dksX2_next_0 1 rfl rfl)
theorem dX2_next_4 : decode cX2_next 4 = .ok (.istore_n 1, 1) := dk_60 (dk_at dksX2_next_0 4 rfl rfl)
theorem dX2_next_5 : decode cX2_next 5 = .ok (.aload_n 0, 1) := dk_42 (dk_at dksX2_next_0 5 rfl rfl)
theorem dX2_next_6 : decode cX2_next 6 = .ok (.iload_n 1, 1) := dk_27 (dk_at dksX2_next_0 6 rfl rfl)
theorem dX2_next_7 : decode cX2_next 7 = .ok (.invokevirtual 43, 3) := dk_182 0 43 (dk_at dksX2_next_0 7 rfl rfl)
theorem dX2_next_10 : decode cX2_next 10 = .ok (.bipush 32, 2) := dk_16 32 (dk_at dksX2_next_0 10 rfl rfl)
theorem dX2_next_12 : decode cX2_next 12 = .ok (.if_icmp .ne 9, 3) := dk_160 0 9 (dk_at dksX2_next_0 12 rfl rfl)
theorem dX2_next_15 : decode cX2_next 15 = .ok (.iinc 1 1, 3) := dk_132 1 1 (dk_at dksX2_next_0 15 rfl rfl)
theorem dX2_next_18 : decode cX2_next 18 = .ok (.goto (-13), 3) := dk_167 255 243 (dk_at dksX2_next_0 18 rfl rfl)
theorem dX2_next_21 : decode cX2_next 21 = .ok (.aload_n 0, 1) := dk_42 (dk_at dksX2_next_0 21 rfl rfl)
theorem dX2_next_22 : decode cX2_next 22 = .ok (.iload_n 1, 1) := dk_27 (dk_at dksX2_next_0 22 rfl rfl)
theorem dX2_next_23 : decode cX2_next 23 = .ok (.putfield 26, 3) := dk_181 0 26 (dk_at dksX2_next_1 0 rfl rfl)
theorem dX2_next_26 : decode cX2_next 26 = .ok (.aload_n 0, 1) := dk_42 (dk_at dksX2_next_1 3 rfl rfl)
theorem dX2_next_27 : decode cX2_next 27 = .ok (.iload_n 1, 1) := dk_27 (dk_at dksX2_next_1 4 rfl rfl)
theorem dX2_next_28 : decode cX2_next 28 = .ok (.iconst 1, 1) := dk_4 (dk_at dksX2_next_1 5 rfl rfl)
theorem dX2_next_29 : decode cX2_next 29 = .ok (.iadd, 1) := dk_96 (dk_at dksX2_next_1 6 rfl rfl)
theorem dX2_next_30 : decode cX2_next 30 = .ok (.putfield 40, 3) := dk_181 0 40 (dk_at dksX2_next_1 7 rfl rfl)
theorem dX2_next_33 : decode cX2_next 33 = .ok (.aload_n 0, 1) := dk_42 (dk_at dksX2_next_1 10 rfl rfl)
theorem dX2_next_34 : decode cX2_next 34 = .ok (.iload_n 1, 1) := dk_27 (dk_at dksX2_next_1 11 rfl rfl)
theorem dX2_next_35 : decode cX2_next 35 = .ok (.invokevirtual 43, 3) := dk_182 0 43 (dk_at dksX2_next_1 12 rfl rfl)
theorem dX2_next_38 : decode cX2_next 38 = .ok (.istore_n 2, 1) := dk_61 (dk_at dksX2_next_1 15 rfl rfl)
theorem dX2_next_39 : decode cX2_next 39 = .ok (.iload_n 2, 1) := dk_28 (dk_at dksX2_next_1 16 rfl rfl)
theorem dX2_next_40 : decode cX2_next 40 = .ok (.iconst (-1), 1) := dk_2 (dk_at dksX2_next_1 17 rfl rfl)
theorem dX2_next_41 : decode cX2_next 41 = .ok (.if_icmp .ne 16, 3) := dk_160 0 16 (dk_at dksX2_next_1 18 rfl rfl)
theorem dX2_next_44 : decode cX2_next 44 = .ok (.aload_n 0, 1) := dk_42 (dk_at dksX2_next_1 21 rfl rfl)
theorem dX2_next_45 : decode cX2_next 45 = .ok (.iconst 0, 1) := dk_3 (dk_at dksX2_next_1 22 rfl rfl)
theorem dX2_next_46 : decode cX2_next 46 = .ok (.putfield 47, 3) := dk_181 0 47 (dk_at dksX2_next_2 0 rfl rfl)
theorem dX2_next_49 : decode cX2_next 49 = .ok (.aload_n 0, 1) := dk_42 (dk_at dksX2_next_2 3 rfl rfl)
theorem dX2_next_50 : decode cX2_next 50 = .ok (.iload_n 1, 1) := dk_27 (dk_at dksX2_next_2 4 rfl rfl)
theorem dX2_next_51 : decode cX2_next 51 = .ok (.putfield 40, 3) := dk_181 0 40 (dk_at dksX2_next_2 5 rfl rfl)
theorem dX2_next_54 : decode cX2_next 54 = .ok (.goto 245, 3) := dk_167 0 245 (dk_at dksX2_next_2 8 rfl rfl)
theorem dX2_next_57 : decode cX2_next 57 = .ok (.iload_n 2, 1) := dk_28 (dk_at dksX2_next_2 11 rfl rfl)
theorem dX2_next_58 : decode cX2_next 58 = .ok (.invokestatic 50, 3) := dk_184 0 50 (dk_at dksX2_next_2 12 rfl rfl)
theorem dX2_next_61 : decode cX2_next 61 = .ok (.ifCond .eq 124, 3) := dk_153 0 124 (dk_at dksX2_next_2 15 rfl rfl)
theorem dX2_next_64 : decode cX2_next 64 = .ok (.aload_n 0, 1) := dk_42 (dk_at dksX2_next_2 18 rfl rfl)
theorem dX2_next_65 : decode cX2_next 65 = .ok (.iload_n 1, 1) := dk_27 (dk_at dksX2_next_2 19 rfl rfl)
theorem dX2_next_66 : decode cX2_next 66 = .ok (.putfield 40, 3) := dk_181 0 40 (dk_at dksX2_next_2 20 rfl rfl)
theorem dX2_next_69 : decode cX2_next 69 = .ok (.aload_n 0, 1) := dk_42 (dk_at dksX2_next_2 23 rfl rfl)
theorem dX2_next_70 : decode cX2_next 70 = .ok (.aload_n 0, 1) := dk_42 (dk_at dksX2_next_3 0 rfl rfl)
theorem dX2_next_71 : decode cX2_next 71 = .ok (.getfield 40, 3) := dk_180 0 40 (dk_at dksX2_next_3 1 rfl rfl)
theorem dX2_next_74 : decode cX2_next 74 = .ok (.invokevirtual 43, 3) := dk_182 0 43 (dk_at dksX2_next_3 4 rfl rfl)
theorem dX2_next_77 : decode cX2_next 77 = .ok (.invokestatic 50, 3) := dk_184 0 50 (dk_at dksX2_next_3 7 rfl rfl)
theorem dX2_next_80 : decode cX2_next 80 = .ok (.ifCond .eq 47, 3) := dk_153 0 47 (dk_at dksX2_next_3 10 rfl rfl)
theorem dX2_next_83 : decode cX2_next 83 = .ok (.aload_n 0, 1) := dk_42 (dk_at dksX2_next_3 13 rfl rfl)
theorem dX2_next_84 : decode cX2_next 84 = .ok (.getfield 40, 3) := dk_180 0 40 (dk_at dksX2_next_3 14 rfl rfl)
theorem dX2_next_87 : decode cX2_next 87 = .ok (.iload_n 1, 1) := dk_27 (dk_at dksX2_next_3 17 rfl rfl)
theorem dX2_next_88 : decode cX2_next 88 = .ok (.isub, 1) := dk_100 (dk_at dksX2_next_3 18 rfl rfl)
theorem dX2_next_89 : decode cX2_next 89 = .ok (.bipush 8, 2) := dk_16 8 (dk_at dksX2_next_3 19 rfl rfl)
theorem dX2_next_91 : decode cX2_next 91 = .ok (.if_icmp .ge 23, 3) := dk_162 0 23 (dk_at dksX2_next_3 21 rfl rfl)
theorem dX2_next_94 : decode cX2_next 94 = .ok (.aload_n 0, 1) := dk_42 (dk_at dksX2_next_4 0 rfl rfl)
theorem dX2_next_95 : decode cX2_next 95 = .ok (.getfield 18, 3) := dk_180 0 18 (dk_at dksX2_next_4 1 rfl rfl)
theorem dX2_next_98 : decode cX2_next 98 = .ok (.aload_n 0, 1) := dk_42 (dk_at dksX2_next_4 4 rfl rfl)
theorem dX2_next_99 : decode cX2_next 99 = .ok (.getfield 40, 3) := dk_180 0 40 (dk_at dksX2_next_4 5 rfl rfl)
theorem dX2_next_102 : decode cX2_next 102 = .ok (.iload_n 1, 1) := dk_27 (dk_at dksX2_next_4 8 rfl rfl)
theorem dX2_next_103 : decode cX2_next 103 = .ok (.isub, 1) := dk_100 (dk_at dksX2_next_4 9 rfl rfl)
theorem dX2_next_104 : decode cX2_next 104 = .ok (.aload_n 0, 1) := dk_42 (dk_at dksX2_next_4 10 rfl rfl)
theorem dX2_next_105 : decode cX2_next 105 = .ok (.aload_n 0, 1) := dk_42 (dk_at dksX2_next_4 11 rfl rfl)
theorem dX2_next_106 : decode cX2_next 106 = .ok (.getfield 40, 3) := dk_180 0 40 (dk_at dksX2_next_4 12 rfl rfl)
theorem dX2_next_109 : decode cX2_next 109 = .ok (.invokevirtual 43, 3) := dk_182 0 43 (dk_at dksX2_next_4 15 rfl rfl)
theorem dX2_next_112 : decode cX2_next 112 = .ok (.i2c, 1) := dk_146 (dk_at dksX2_next_4 18 rfl rfl)
theorem dX2_next_113 : decode cX2_next 113 = .ok (.castore, 1) := dk_85 (dk_at dksX2_next_4 19 rfl rfl)
theorem dX2_next_114 : decode cX2_next 114 = .ok (.aload_n 0, 1) := dk_42 (dk_at dksX2_next_4 20 rfl rfl)
theorem dX2_next_115 : decode cX2_next 115 = .ok (.dup, 1) := dk_89 (dk_at dksX2_next_4 21 rfl rfl)
theorem dX2_next_116 : decode cX2_next 116 = .ok (.getfield 40, 3) := dk_180 0 40 (dk_at dksX2_next_5 0 rfl rfl)
theorem dX2_next_119 : decode cX2_next 119 = .ok (.iconst 1, 1) := dk_4 (dk_at dksX2_next_5 3 rfl rfl)
theorem dX2_next_120 : decode cX2_next 120 = .ok (.iadd, 1) := dk_96 (dk_at dksX2_next_5 4 rfl rfl)
theorem dX2_next_121 : decode cX2_next 121 = .ok (.putfield 40, 3) := dk_181 0 40 (dk_at dksX2_next_5 5 rfl rfl)
theorem dX2_next_124 : decode cX2_next 124 = .ok (.goto (-55), 3) := dk_167 255 201 (dk_at dksX2_next_5 8 rfl rfl)
theorem dX2_next_127 : decode cX2_next 127 = .ok (.aload_n 0, 1) := dk_42 (dk_at dksX2_next_5 11 rfl rfl)
theorem dX2_next_128 : decode cX2_next 128 = .ok (.aload_n 0, 1) := dk_42 (dk_at dksX2_next_5 12 rfl rfl)
theorem dX2_next_129 : decode cX2_next 129 = .ok (.getfield 40, 3) := dk_180 0 40 (dk_at dksX2_next_5 13 rfl rfl)
theorem dX2_next_132 : decode cX2_next 132 = .ok (.iload_n 1, 1) := dk_27 (dk_at dksX2_next_5 16 rfl rfl)
theorem dX2_next_133 : decode cX2_next 133 = .ok (.isub, 1) := dk_100 (dk_at dksX2_next_5 17 rfl rfl)
theorem dX2_next_134 : decode cX2_next 134 = .ok (.bipush 8, 2) := dk_16 8 (dk_at dksX2_next_5 18 rfl rfl)
theorem dX2_next_136 : decode cX2_next 136 = .ok (.if_icmp .le 7, 3) := dk_164 0 7 (dk_at dksX2_next_5 20 rfl rfl)
theorem dX2_next_139 : decode cX2_next 139 = .ok (.iconst 1, 1) := dk_4 (dk_at dksX2_next_5 23 rfl rfl)
theorem dX2_next_140 : decode cX2_next 140 = .ok (.goto 4, 3) := dk_167 0 4 (dk_at dksX2_next_6 0 rfl rfl)
theorem dX2_next_143 : decode cX2_next 143 = .ok (.iconst 2, 1) := dk_5 (dk_at dksX2_next_6 3 rfl rfl)
theorem dX2_next_144 : decode cX2_next 144 = .ok (.putfield 47, 3) := dk_181 0 47 (dk_at dksX2_next_6 4 rfl rfl)
theorem dX2_next_147 : decode cX2_next 147 = .ok (.aload_n 0, 1) := dk_42 (dk_at dksX2_next_6 7 rfl rfl)
theorem dX2_next_148 : decode cX2_next 148 = .ok (.aload_n 0, 1) := dk_42 (dk_at dksX2_next_6 8 rfl rfl)
theorem dX2_next_149 : decode cX2_next 149 = .ok (.getfield 47, 3) := dk_180 0 47 (dk_at dksX2_next_6 9 rfl rfl)
theorem dX2_next_152 : decode cX2_next 152 = .ok (.iconst 2, 1) := dk_5 (dk_at dksX2_next_6 12 rfl rfl)
theorem dX2_next_153 : decode cX2_next 153 = .ok (.if_icmp .ne 24, 3) := dk_160 0 24 (dk_at dksX2_next_6 13 rfl rfl)
theorem dX2_next_156 : decode cX2_next 156 = .ok (.new 54, 3) := dk_187 0 54 (dk_at dksX2_next_6 16 rfl rfl)
theorem dX2_next_159 : decode cX2_next 159 = .ok (.dup, 1) := dk_89 (dk_at dksX2_next_6 19 rfl rfl)
theorem dX2_next_160 : decode cX2_next 160 = .ok (.aload_n 0, 1) := dk_42 (dk_at dksX2_next_6 20 rfl rfl)
theorem dX2_next_161 : decode cX2_next 161 = .ok (.getfield 18, 3) := dk_180 0 18 (dk_at dksX2_next_6 21 rfl rfl)
theorem dX2_next_164 : decode cX2_next 164 = .ok (.iconst 0, 1) := dk_3 (dk_at dksX2_next_7 0 rfl rfl)
theorem dX2_next_165 : decode cX2_next 165 = .ok (.aload_n 0, 1) := dk_42 (dk_at dksX2_next_7 1 rfl rfl)
theorem dX2_next_166 : decode cX2_next 166 = .ok (.getfield 40, 3) := dk_180 0 40 (dk_at dksX2_next_7 2 rfl rfl)
theorem dX2_next_169 : decode cX2_next 169 = .ok (.iload_n 1, 1) := dk_27 (dk_at dksX2_next_7 5 rfl rfl)
theorem dX2_next_170 : decode cX2_next 170 = .ok (.isub, 1) := dk_100 (dk_at dksX2_next_7 6 rfl rfl)
theorem dX2_next_171 : decode cX2_next 171 = .ok (.invokespecial 56, 3) := dk_183 0 56 (dk_at dksX2_next_7 7 rfl rfl)
theorem dX2_next_174 : decode cX2_next 174 = .ok (.goto 5, 3) := dk_167 0 5 (dk_at dksX2_next_7 10 rfl rfl)
theorem dX2_next_177 : decode cX2_next 177 = .ok (.ldc 59, 2) := dk_18 59 (dk_at dksX2_next_7 13 rfl rfl)
theorem dX2_next_179 : decode cX2_next 179 = .ok (.putfield 61, 3) := dk_181 0 61 (dk_at dksX2_next_7 15 rfl rfl)
theorem dX2_next_182 : decode cX2_next 182 = .ok (.goto 117, 3) := dk_167 0 117 (dk_at dksX2_next_7 18 rfl rfl)
theorem dX2_next_185 : decode cX2_next 185 = .ok (.iload_n 2, 1) := dk_28 (dk_at dksX2_next_7 21 rfl rfl)
theorem dX2_next_186 : decode cX2_next 186 = .ok (.invokestatic 65, 3) := dk_184 0 65 (dk_at dksX2_next_8 0 rfl rfl)
theorem dX2_next_189 : decode cX2_next 189 = .ok (.ifCond .eq 95, 3) := dk_153 0 95 (dk_at dksX2_next_8 3 rfl rfl)
theorem dX2_next_192 : decode cX2_next 192 = .ok (.aload_n 0, 1) := dk_42 (dk_at dksX2_next_8 6 rfl rfl)
theorem dX2_next_193 : decode cX2_next 193 = .ok (.iconst 0, 1) := dk_3 (dk_at dksX2_next_8 7 rfl rfl)
theorem dX2_next_194 : decode cX2_next 194 = .ok (.putfield 68, 3) := dk_181 0 68 (dk_at dksX2_next_8 8 rfl rfl)
theorem dX2_next_197 : decode cX2_next 197 = .ok (.aload_n 0, 1) := dk_42 (dk_at dksX2_next_8 11 rfl rfl)
theorem dX2_next_198 : decode cX2_next 198 = .ok (.iload_n 1, 1) := dk_27 (dk_at dksX2_next_8 12 rfl rfl)
theorem dX2_next_199 : decode cX2_next 199 = .ok (.putfield 40, 3) := dk_181 0 40 (dk_at dksX2_next_8 13 rfl rfl)
theorem dX2_next_202 : decode cX2_next 202 = .ok (.aload_n 0, 1) := dk_42 (dk_at dksX2_next_8 16 rfl rfl)
theorem dX2_next_203 : decode cX2_next 203 = .ok (.aload_n 0, 1) := dk_42 (dk_at dksX2_next_8 17 rfl rfl)
theorem dX2_next_204 : decode cX2_next 204 = .ok (.getfield 40, 3) := dk_180 0 40 (dk_at dksX2_next_8 18 rfl rfl)
theorem dX2_next_207 : decode cX2_next 207 = .ok (.invokevirtual 43, 3) := dk_182 0 43 (dk_at dksX2_next_8 21 rfl rfl)
theorem dX2_next_210 : decode cX2_next 210 = .ok (.invokestatic 65, 3) := dk_184 0 65 (dk_at dksX2_next_9 0 rfl rfl)
theorem dX2_next_213 : decode cX2_next 213 = .ok (.ifCond .eq 49, 3) := dk_153 0 49 (dk_at dksX2_next_9 3 rfl rfl)
theorem dX2_next_216 : decode cX2_next 216 = .ok (.aload_n 0, 1) := dk_42 (dk_at dksX2_next_9 6 rfl rfl)
theorem dX2_next_217 : decode cX2_next 217 = .ok (.getfield 40, 3) := dk_180 0 40 (dk_at dksX2_next_9 7 rfl rfl)
theorem dX2_next_220 : decode cX2_next 220 = .ok (.iload_n 1, 1) := dk_27 (dk_at dksX2_next_9 10 rfl rfl)
theorem dX2_next_221 : decode cX2_next 221 = .ok (.isub, 1) := dk_100 (dk_at dksX2_next_9 11 rfl rfl)
theorem dX2_next_222 : decode cX2_next 222 = .ok (.iconst 3, 1) := dk_6 (dk_at dksX2_next_9 12 rfl rfl)
theorem dX2_next_223 : decode cX2_next 223 = .ok (.if_icmp .ge 26, 3) := dk_162 0 26 (dk_at dksX2_next_9 13 rfl rfl)
theorem dX2_next_226 : decode cX2_next 226 = .ok (.aload_n 0, 1) := dk_42 (dk_at dksX2_next_9 16 rfl rfl)
theorem dX2_next_227 : decode cX2_next 227 = .ok (.bipush 10, 2) := dk_16 10 (dk_at dksX2_next_9 17 rfl rfl)
theorem dX2_next_229 : decode cX2_next 229 = .ok (.aload_n 0, 1) := dk_42 (dk_at dksX2_next_9 19 rfl rfl)
theorem dX2_next_230 : decode cX2_next 230 = .ok (.getfield 68, 3) := dk_180 0 68 (dk_at dksX2_next_9 20 rfl rfl)
theorem dX2_next_233 : decode cX2_next 233 = .ok (.imul, 1) := dk_104 (dk_at dksX2_next_9 23 rfl rfl)
theorem dX2_next_234 : decode cX2_next 234 = .ok (.aload_n 0, 1) := dk_42 (dk_at dksX2_next_10 0 rfl rfl)
theorem dX2_next_235 : decode cX2_next 235 = .ok (.aload_n 0, 1) := dk_42 (dk_at dksX2_next_10 1 rfl rfl)
theorem dX2_next_236 : decode cX2_next 236 = .ok (.getfield 40, 3) := dk_180 0 40 (dk_at dksX2_next_10 2 rfl rfl)
theorem dX2_next_239 : decode cX2_next 239 = .ok (.invokevirtual 43, 3) := dk_182 0 43 (dk_at dksX2_next_10 5 rfl rfl)
theorem dX2_next_242 : decode cX2_next 242 = .ok (.iadd, 1) := dk_96 (dk_at dksX2_next_10 8 rfl rfl)
theorem dX2_next_243 : decode cX2_next 243 = .ok (.bipush 48, 2) := dk_16 48 (dk_at dksX2_next_10 9 rfl rfl)
theorem dX2_next_245 : decode cX2_next 245 = .ok (.isub, 1) := dk_100 (dk_at dksX2_next_10 11 rfl rfl)
theorem dX2_next_246 : decode cX2_next 246 = .ok (.putfield 68, 3) := dk_181 0 68 (dk_at dksX2_next_10 12 rfl rfl)
theorem dX2_next_249 : decode cX2_next 249 = .ok (.aload_n 0, 1) := dk_42 (dk_at dksX2_next_10 15 rfl rfl)
theorem dX2_next_250 : decode cX2_next 250 = .ok (.dup, 1) := dk_89 (dk_at dksX2_next_10 16 rfl rfl)
theorem dX2_next_251 : decode cX2_next 251 = .ok (.getfield 40, 3) := dk_180 0 40 (dk_at dksX2_next_10 17 rfl rfl)
theorem dX2_next_254 : decode cX2_next 254 = .ok (.iconst 1, 1) := dk_4 (dk_at dksX2_next_10 20 rfl rfl)
theorem dX2_next_255 : decode cX2_next 255 = .ok (.iadd, 1) := dk_96 (dk_at dksX2_next_10 21 rfl rfl)
theorem dX2_next_256 : decode cX2_next 256 = .ok (.putfield 40, 3) := dk_181 0 40 (dk_at dksX2_next_11 0 rfl rfl)
theorem dX2_next_259 : decode cX2_next 259 = .ok (.goto (-57), 3) := dk_167 255 199 (dk_at dksX2_next_11 3 rfl rfl)
theorem dX2_next_262 : decode cX2_next 262 = .ok (.aload_n 0, 1) := dk_42 (dk_at dksX2_next_11 6 rfl rfl)
theorem dX2_next_263 : decode cX2_next 263 = .ok (.aload_n 0, 1) := dk_42 (dk_at dksX2_next_11 7 rfl rfl)
theorem dX2_next_264 : decode cX2_next 264 = .ok (.getfield 40, 3) := dk_180 0 40 (dk_at dksX2_next_11 8 rfl rfl)
theorem dX2_next_267 : decode cX2_next 267 = .ok (.iload_n 1, 1) := dk_27 (dk_at dksX2_next_11 11 rfl rfl)
theorem dX2_next_268 : decode cX2_next 268 = .ok (.isub, 1) := dk_100 (dk_at dksX2_next_11 12 rfl rfl)
theorem dX2_next_269 : decode cX2_next 269 = .ok (.iconst 3, 1) := dk_6 (dk_at dksX2_next_11 13 rfl rfl)
theorem dX2_next_270 : decode cX2_next 270 = .ok (.if_icmp .le 7, 3) := dk_164 0 7 (dk_at dksX2_next_11 14 rfl rfl)
theorem dX2_next_273 : decode cX2_next 273 = .ok (.iconst 1, 1) := dk_4 (dk_at dksX2_next_11 17 rfl rfl)
theorem dX2_next_274 : decode cX2_next 274 = .ok (.goto 4, 3) := dk_167 0 4 (dk_at dksX2_next_11 18 rfl rfl)
theorem dX2_next_277 : decode cX2_next 277 = .ok (.iconst 3, 1) := dk_6 (dk_at dksX2_next_11 21 rfl rfl)
theorem dX2_next_278 : decode cX2_next 278 = .ok (.putfield 47, 3) := dk_181 0 47 (dk_at dksX2_next_12 0 rfl rfl)
theorem dX2_next_281 : decode cX2_next 281 = .ok (.goto 18, 3) := dk_167 0 18 (dk_at dksX2_next_12 3 rfl rfl)
theorem dX2_next_284 : decode cX2_next 284 = .ok (.aload_n 0, 1) := dk_42 (dk_at dksX2_next_12 6 rfl rfl)
theorem dX2_next_285 : decode cX2_next 285 = .ok (.iload_n 2, 1) := dk_28 (dk_at dksX2_next_12 7 rfl rfl)
theorem dX2_next_286 : decode cX2_next 286 = .ok (.bipush 59, 2) := dk_16 59 (dk_at dksX2_next_12 8 rfl rfl)
theorem dX2_next_288 : decode cX2_next 288 = .ok (.if_icmp .ne 7, 3) := dk_160 0 7 (dk_at dksX2_next_12 10 rfl rfl)
theorem dX2_next_291 : decode cX2_next 291 = .ok (.iload_n 2, 1) := dk_28 (dk_at dksX2_next_12 13 rfl rfl)
theorem dX2_next_292 : decode cX2_next 292 = .ok (.goto 4, 3) := dk_167 0 4 (dk_at dksX2_next_12 14 rfl rfl)
theorem dX2_next_295 : decode cX2_next 295 = .ok (.iconst 1, 1) := dk_4 (dk_at dksX2_next_12 17 rfl rfl)
theorem dX2_next_296 : decode cX2_next 296 = .ok (.putfield 47, 3) := dk_181 0 47 (dk_at dksX2_next_12 18 rfl rfl)
theorem dX2_next_299 : decode cX2_next 299 = .ok (.return_, 1) := dk_177 (dk_at dksX2_next_12 21 rfl rfl)
abbrev cX2_see : ByteArray := prog_15_method_3_code
def yX2_see : MethodName := ⟨RX2, "see", "(I)I"⟩
def dkwX2_see_0 : List UInt8 := [27, 42, 180, 0, 33, 162, 0, 16, 42, 180, 0, 22, 27, 51, 17, 0, 255, 126, 167, 0, 4, 2, 172]
abbrev dktX2_see_0 : List UInt8 := dkwX2_see_0 ++ []
theorem dksX2_see_0 : cX2_see.data.toList.drop 0 = dktX2_see_0 := by decide +kernel
theorem dX2_see_0 : decode cX2_see 0 = .ok (.iload_n 1, 1) := dk_27 (dk_at dksX2_see_0 0 rfl rfl)
theorem dX2_see_1 : decode cX2_see 1 = .ok (.aload_n 0, 1) := dk_42 (dk_at dksX2_see_0 1 rfl rfl)
theorem dX2_see_2 : decode cX2_see 2 = .ok (.getfield 33, 3) := dk_180 0 33 (dk_at dksX2_see_0 2 rfl rfl)
theorem dX2_see_5 : decode cX2_see 5 = .ok (.if_icmp .ge 16, 3) := dk_162 0 16 (dk_at dksX2_see_0 5 rfl rfl)
theorem dX2_see_8 : decode cX2_see 8 = .ok (.aload_n 0, 1) := dk_42 (dk_at dksX2_see_0 8 rfl rfl)
theorem dX2_see_9 : decode cX2_see 9 = .ok (.getfield 22, 3) := dk_180 0 22 (dk_at dksX2_see_0 9 rfl rfl)
theorem dX2_see_12 : decode cX2_see 12 = .ok (.iload_n 1, 1) := dk_27 (dk_at dksX2_see_0 12 rfl rfl)
theorem dX2_see_13 : decode cX2_see 13 = .ok (.baload, 1) := dk_51 (dk_at dksX2_see_0 13 rfl rfl)
theorem dX2_see_14 : decode cX2_see 14 = .ok (.sipush 255, 3) := dk_17 0 255 (dk_at dksX2_see_0 14 rfl rfl)
theorem dX2_see_17 : decode cX2_see 17 = .ok (.iand, 1) := dk_126 (dk_at dksX2_see_0 17 rfl rfl)
theorem dX2_see_18 : decode cX2_see 18 = .ok (.goto 4, 3) := dk_167 0 4 (dk_at dksX2_see_0 18 rfl rfl)
theorem dX2_see_21 : decode cX2_see 21 = .ok (.iconst (-1), 1) := dk_2 (dk_at dksX2_see_0 21 rfl rfl)
theorem dX2_see_22 : decode cX2_see 22 = .ok (.ireturn, 1) := dk_172 (dk_at dksX2_see_0 22 rfl rfl)
abbrev cX2_isSmall : ByteArray := prog_15_method_4_code
def yX2_isSmall : MethodName := ⟨RX2, "isSmall", "(I)Z"⟩
def dkwX2_isSmall_0 : List UInt8 := [26, 16, 97, 16, 122, 184, 0, 36, 172]
abbrev dktX2_isSmall_0 : List UInt8 := dkwX2_isSmall_0 ++ []
theorem dksX2_isSmall_0 : cX2_isSmall.data.toList.drop 0 = dktX2_isSmall_0 := by decide +kernel
theorem dX2_isSmall_0 : decode cX2_isSmall 0 = .ok (.iload_n 0, 1) := dk_26 (dk_at dksX2_isSmall_0 0 rfl rfl)
theorem dX2_isSmall_1 : decode cX2_isSmall 1 = .ok (.bipush 97, 2) := dk_16 97 (dk_at dksX2_isSmall_0 1 rfl rfl)
theorem dX2_isSmall_3 : decode cX2_isSmall 3 = .ok (.bipush 122, 2) := dk_16 122 (dk_at dksX2_isSmall_0 3 rfl rfl)
theorem dX2_isSmall_5 : decode cX2_isSmall 5 = .ok (.invokestatic 36, 3) := dk_184 0 36 (dk_at dksX2_isSmall_0 5 rfl rfl)
theorem dX2_isSmall_8 : decode cX2_isSmall 8 = .ok (.ireturn, 1) := dk_172 (dk_at dksX2_isSmall_0 8 rfl rfl)
abbrev cX2_isDigit : ByteArray := prog_15_method_5_code
def yX2_isDigit : MethodName := ⟨RX2, "isDigit", "(I)Z"⟩
def dkwX2_isDigit_0 : List UInt8 := [26, 16, 48, 16, 57, 184, 0, 36, 172]
abbrev dktX2_isDigit_0 : List UInt8 := dkwX2_isDigit_0 ++ []
theorem dksX2_isDigit_0 : cX2_isDigit.data.toList.drop 0 = dktX2_isDigit_0 := by decide +kernel
theorem dX2_isDigit_0 : decode cX2_isDigit 0 = .ok (.iload_n 0, 1) := dk_26 (dk_at dksX2_isDigit_0 0 rfl rfl)
theorem dX2_isDigit_1 : decode cX2_isDigit 1 = .ok (.bipush 48, 2) := dk_16 48 (dk_at dksX2_isDigit_0 1 rfl rfl)
theorem dX2_isDigit_3 : decode cX2_isDigit 3 = .ok (.bipush 57, 2) := dk_16 57 (dk_at dksX2_isDigit_0 3 rfl rfl)
theorem dX2_isDigit_5 : decode cX2_isDigit 5 = .ok (.invokestatic 36, 3) := dk_184 0 36 (dk_at dksX2_isDigit_0 5 rfl rfl)
theorem dX2_isDigit_8 : decode cX2_isDigit 8 = .ok (.ireturn, 1) := dk_172 (dk_at dksX2_isDigit_0 8 rfl rfl)
abbrev cX2_line : ByteArray := prog_15_method_17_code
def yX2_line : MethodName := ⟨RX2, "line", "()V"⟩
def dkwX2_line_10 : List UInt8 := [182, 0, 82, 191, 177]
abbrev dktX2_line_10 : List UInt8 := dkwX2_line_10 ++ []
def dkwX2_line_9 : List UInt8 := [182, 0, 158, 167, 0, 23, 42, 182, 0, 161, 167, 0, 16, 42, 182, 0, 164, 167, 0, 9, 42, 4]
abbrev dktX2_line_9 : List UInt8 := dkwX2_line_9 ++ dktX2_line_10
def dkwX2_line_8 : List UInt8 := [42, 182, 0, 149, 167, 0, 44, 42, 182, 0, 152, 167, 0, 37, 42, 182, 0, 155, 167, 0, 30, 42]
abbrev dktX2_line_8 : List UInt8 := dkwX2_line_8 ++ dktX2_line_9
def dkwX2_line_7 : List UInt8 := [170, 0, 0, 0, 0, 80, 0, 0, 0, 0, 0, 0, 0, 5, 0, 0, 0, 38, 0, 0, 0, 45, 0, 0, 0, 52, 0, 0, 0, 59, 0, 0, 0, 66, 0, 0, 0, 73]
abbrev dktX2_line_7 : List UInt8 := dkwX2_line_7 ++ dktX2_line_8
def dkwX2_line_6 : List UInt8 := [18, 100, 182, 0, 71, 153, 0, 5, 8, 61, 28]
abbrev dktX2_line_6 : List UInt8 := dkwX2_line_6 ++ dktX2_line_7
def dkwX2_line_5 : List UInt8 := [153, 0, 33, 6, 61, 167, 0, 28, 43, 18, 98, 182, 0, 71, 153, 0, 19, 7, 61, 167, 0, 14, 43]
abbrev dktX2_line_5 : List UInt8 := dkwX2_line_5 ++ dktX2_line_6
def dkwX2_line_4 : List UInt8 := [61, 167, 0, 56, 43, 18, 94, 182, 0, 71, 153, 0, 47, 5, 61, 167, 0, 42, 43, 18, 96, 182, 0, 71]
abbrev dktX2_line_4 : List UInt8 := dkwX2_line_4 ++ dktX2_line_5
def dkwX2_line_3 : List UInt8 := [43, 18, 90, 182, 0, 71, 153, 0, 75, 3, 61, 167, 0, 70, 43, 18, 92, 182, 0, 71, 153, 0, 61, 4]
abbrev dktX2_line_3 : List UInt8 := dkwX2_line_3 ++ dktX2_line_4
def dkwX2_line_2 : List UInt8 := [171, 0, 0, 0, 0, 0, 140, 0, 0, 0, 6, 204, 152, 97, 220, 0, 0, 0, 129, 0, 46, 153, 107, 0, 0, 0, 101, 0, 50, 145, 236, 0, 0, 0, 73, 0, 52, 100, 17, 0, 0, 0, 115, 5, 148, 99, 95, 0, 0, 0, 87, 5, 206, 160, 250, 0, 0, 0, 59]
abbrev dktX2_line_2 : List UInt8 := dkwX2_line_2 ++ dktX2_line_3
def dkwX2_line_1 : List UInt8 := [182, 0, 86]
abbrev dktX2_line_1 : List UInt8 := dkwX2_line_1 ++ dktX2_line_2
def dkwX2_line_0 : List UInt8 := [42, 180, 0, 47, 5, 159, 0, 9, 42, 4, 182, 0, 82, 191, 42, 180, 0, 61, 76, 2, 61, 43]
abbrev dktX2_line_0 : List UInt8 := dkwX2_line_0 ++ dktX2_line_1
theorem dksX2_line_0 : cX2_line.data.toList.drop 0 = dktX2_line_0 := by decide +kernel
theorem dksX2_line_1 : cX2_line.data.toList.drop 22 = dktX2_line_1 := dk_seg dksX2_line_0 22 rfl rfl
theorem dksX2_line_2 : cX2_line.data.toList.drop 25 = dktX2_line_2 := dk_seg dksX2_line_1 3 rfl rfl
theorem dksX2_line_3 : cX2_line.data.toList.drop 84 = dktX2_line_3 := dk_seg dksX2_line_2 59 rfl rfl
theorem dksX2_line_4 : cX2_line.data.toList.drop 108 = dktX2_line_4 := dk_seg dksX2_line_3 24 rfl rfl
theorem dksX2_line_5 : cX2_line.data.toList.drop 132 = dktX2_line_5 := dk_seg dksX2_line_4 24 rfl rfl
theorem dksX2_line_6 : cX2_line.data.toList.drop 155 = dktX2_line_6 := dk_seg dksX2_line_5 23 rfl rfl
theorem dksX2_line_7 : cX2_line.data.toList.drop 166 = dktX2_line_7 := dk_seg dksX2_line_6 11 rfl rfl
theorem dksX2_line_8 : cX2_line.data.toList.drop 204 = dktX2_line_8 := dk_seg dksX2_line_7 38 rfl rfl
theorem dksX2_line_9 : cX2_line.data.toList.drop 226 = dktX2_line_9 := dk_seg dksX2_line_8 22 rfl rfl
theorem dksX2_line_10 : cX2_line.data.toList.drop 248 = dktX2_line_10 := dk_seg dksX2_line_9 22 rfl rfl
theorem dX2_line_0 : decode cX2_line 0 = .ok (.aload_n 0, 1) := dk_42 (dk_at dksX2_line_0 0 rfl rfl)
theorem dX2_line_1 : decode cX2_line 1 = .ok (.getfield 47, 3) := dk_180 0 47 (dk_at dksX2_line_0 1 rfl rfl)
theorem dX2_line_4 : decode cX2_line 4 = .ok (.iconst 2, 1) := dk_5 (dk_at dksX2_line_0 4 rfl rfl)
theorem dX2_line_5 : decode cX2_line 5 = .ok (.if_icmp .eq 9, 3) := dk_159 0 9 (dk_at dksX2_line_0 5 rfl rfl)
theorem dX2_line_8 : decode cX2_line 8 = .ok (.aload_n 0, 1) := dk_42 (dk_at dksX2_line_0 8 rfl rfl)
theorem dX2_line_9 : decode cX2_line 9 = .ok (.iconst 1, 1) := dk_4 (dk_at dksX2_line_0 9 rfl rfl)
theorem dX2_line_10 : decode cX2_line 10 = .ok (.invokevirtual 82, 3) := dk_182 0 82 (dk_at dksX2_line_0 10 rfl rfl)
theorem dX2_line_13 : decode cX2_line 13 = .ok (.athrow, 1) := dk_191 (dk_at dksX2_line_0 13 rfl rfl)
theorem dX2_line_14 : decode cX2_line 14 = .ok (.aload_n 0, 1) := dk_42 (dk_at dksX2_line_0 14 rfl rfl)
theorem dX2_line_15 : decode cX2_line 15 = .ok (.getfield 61, 3) := dk_180 0 61 (dk_at dksX2_line_0 15 rfl rfl)
theorem dX2_line_18 : decode cX2_line 18 = .ok (.astore_n 1, 1) := dk_76 (dk_at dksX2_line_0 18 rfl rfl)
theorem dX2_line_19 : decode cX2_line 19 = .ok (.iconst (-1), 1) := dk_2 (dk_at dksX2_line_0 19 rfl rfl)
theorem dX2_line_20 : decode cX2_line 20 = .ok (.istore_n 2, 1) := dk_61 (dk_at dksX2_line_0 20 rfl rfl)
theorem dX2_line_21 : decode cX2_line 21 = .ok (.aload_n 1, 1) := dk_43 (dk_at dksX2_line_0 21 rfl rfl)
theorem dX2_line_22 : decode cX2_line 22 = .ok (.invokevirtual 86, 3) := dk_182 0 86 (dk_at dksX2_line_1 0 rfl rfl)
theorem dX2_line_25 : decode cX2_line 25 = .ok (.lookupswitch 140 #[(-862428708, 129), (3053931, 101), (3314156, 73), (3433489, 115), (93610847, 87), (97427706, 59)], 59) := by decide +kernel
theorem dX2_line_84 : decode cX2_line 84 = .ok (.aload_n 1, 1) := dk_43 (dk_at dksX2_line_3 0 rfl rfl)
theorem dX2_line_85 : decode cX2_line 85 = .ok (.ldc 90, 2) := dk_18 90 (dk_at dksX2_line_3 1 rfl rfl)
theorem dX2_line_87 : decode cX2_line 87 = .ok (.invokevirtual 71, 3) := dk_182 0 71 (dk_at dksX2_line_3 3 rfl rfl)
theorem dX2_line_90 : decode cX2_line 90 = .ok (.ifCond .eq 75, 3) := dk_153 0 75 (dk_at dksX2_line_3 6 rfl rfl)
theorem dX2_line_93 : decode cX2_line 93 = .ok (.iconst 0, 1) := dk_3 (dk_at dksX2_line_3 9 rfl rfl)
theorem dX2_line_94 : decode cX2_line 94 = .ok (.istore_n 2, 1) := dk_61 (dk_at dksX2_line_3 10 rfl rfl)
theorem dX2_line_95 : decode cX2_line 95 = .ok (.goto 70, 3) := dk_167 0 70 (dk_at dksX2_line_3 11 rfl rfl)
theorem dX2_line_98 : decode cX2_line 98 = .ok (.aload_n 1, 1) := dk_43 (dk_at dksX2_line_3 14 rfl rfl)
theorem dX2_line_99 : decode cX2_line 99 = .ok (.ldc 92, 2) := dk_18 92 (dk_at dksX2_line_3 15 rfl rfl)
theorem dX2_line_101 : decode cX2_line 101 = .ok (.invokevirtual 71, 3) := dk_182 0 71 (dk_at dksX2_line_3 17 rfl rfl)
theorem dX2_line_104 : decode cX2_line 104 = .ok (.ifCond .eq 61, 3) := dk_153 0 61 (dk_at dksX2_line_3 20 rfl rfl)
theorem dX2_line_107 : decode cX2_line 107 = .ok (.iconst 1, 1) := dk_4 (dk_at dksX2_line_3 23 rfl rfl)
theorem dX2_line_108 : decode cX2_line 108 = .ok (.istore_n 2, 1) := dk_61 (dk_at dksX2_line_4 0 rfl rfl)
theorem dX2_line_109 : decode cX2_line 109 = .ok (.goto 56, 3) := dk_167 0 56 (dk_at dksX2_line_4 1 rfl rfl)
theorem dX2_line_112 : decode cX2_line 112 = .ok (.aload_n 1, 1) := dk_43 (dk_at dksX2_line_4 4 rfl rfl)
theorem dX2_line_113 : decode cX2_line 113 = .ok (.ldc 94, 2) := dk_18 94 (dk_at dksX2_line_4 5 rfl rfl)
theorem dX2_line_115 : decode cX2_line 115 = .ok (.invokevirtual 71, 3) := dk_182 0 71 (dk_at dksX2_line_4 7 rfl rfl)
theorem dX2_line_118 : decode cX2_line 118 = .ok (.ifCond .eq 47, 3) := dk_153 0 47 (dk_at dksX2_line_4 10 rfl rfl)
theorem dX2_line_121 : decode cX2_line 121 = .ok (.iconst 2, 1) := dk_5 (dk_at dksX2_line_4 13 rfl rfl)
theorem dX2_line_122 : decode cX2_line 122 = .ok (.istore_n 2, 1) := dk_61 (dk_at dksX2_line_4 14 rfl rfl)
theorem dX2_line_123 : decode cX2_line 123 = .ok (.goto 42, 3) := dk_167 0 42 (dk_at dksX2_line_4 15 rfl rfl)
theorem dX2_line_126 : decode cX2_line 126 = .ok (.aload_n 1, 1) := dk_43 (dk_at dksX2_line_4 18 rfl rfl)
theorem dX2_line_127 : decode cX2_line 127 = .ok (.ldc 96, 2) := dk_18 96 (dk_at dksX2_line_4 19 rfl rfl)
theorem dX2_line_129 : decode cX2_line 129 = .ok (.invokevirtual 71, 3) := dk_182 0 71 (dk_at dksX2_line_4 21 rfl rfl)
theorem dX2_line_132 : decode cX2_line 132 = .ok (.ifCond .eq 33, 3) := dk_153 0 33 (dk_at dksX2_line_5 0 rfl rfl)
theorem dX2_line_135 : decode cX2_line 135 = .ok (.iconst 3, 1) := dk_6 (dk_at dksX2_line_5 3 rfl rfl)
theorem dX2_line_136 : decode cX2_line 136 = .ok (.istore_n 2, 1) := dk_61 (dk_at dksX2_line_5 4 rfl rfl)
theorem dX2_line_137 : decode cX2_line 137 = .ok (.goto 28, 3) := dk_167 0 28 (dk_at dksX2_line_5 5 rfl rfl)
theorem dX2_line_140 : decode cX2_line 140 = .ok (.aload_n 1, 1) := dk_43 (dk_at dksX2_line_5 8 rfl rfl)
theorem dX2_line_141 : decode cX2_line 141 = .ok (.ldc 98, 2) := dk_18 98 (dk_at dksX2_line_5 9 rfl rfl)
theorem dX2_line_143 : decode cX2_line 143 = .ok (.invokevirtual 71, 3) := dk_182 0 71 (dk_at dksX2_line_5 11 rfl rfl)
theorem dX2_line_146 : decode cX2_line 146 = .ok (.ifCond .eq 19, 3) := dk_153 0 19 (dk_at dksX2_line_5 14 rfl rfl)
theorem dX2_line_149 : decode cX2_line 149 = .ok (.iconst 4, 1) := dk_7 (dk_at dksX2_line_5 17 rfl rfl)
theorem dX2_line_150 : decode cX2_line 150 = .ok (.istore_n 2, 1) := dk_61 (dk_at dksX2_line_5 18 rfl rfl)
theorem dX2_line_151 : decode cX2_line 151 = .ok (.goto 14, 3) := dk_167 0 14 (dk_at dksX2_line_5 19 rfl rfl)
theorem dX2_line_154 : decode cX2_line 154 = .ok (.aload_n 1, 1) := dk_43 (dk_at dksX2_line_5 22 rfl rfl)
theorem dX2_line_155 : decode cX2_line 155 = .ok (.ldc 100, 2) := dk_18 100 (dk_at dksX2_line_6 0 rfl rfl)
theorem dX2_line_157 : decode cX2_line 157 = .ok (.invokevirtual 71, 3) := dk_182 0 71 (dk_at dksX2_line_6 2 rfl rfl)
theorem dX2_line_160 : decode cX2_line 160 = .ok (.ifCond .eq 5, 3) := dk_153 0 5 (dk_at dksX2_line_6 5 rfl rfl)
theorem dX2_line_163 : decode cX2_line 163 = .ok (.iconst 5, 1) := dk_8 (dk_at dksX2_line_6 8 rfl rfl)
theorem dX2_line_164 : decode cX2_line 164 = .ok (.istore_n 2, 1) := dk_61 (dk_at dksX2_line_6 9 rfl rfl)
theorem dX2_line_165 : decode cX2_line 165 = .ok (.iload_n 2, 1) := dk_28 (dk_at dksX2_line_6 10 rfl rfl)
theorem dX2_line_166 : decode cX2_line 166 = .ok (.tableswitch 80 0 5 #[38, 45, 52, 59, 66, 73], 38) := by decide +kernel
theorem dX2_line_204 : decode cX2_line 204 = .ok (.aload_n 0, 1) := dk_42 (dk_at dksX2_line_8 0 rfl rfl)
theorem dX2_line_205 : decode cX2_line 205 = .ok (.invokevirtual 149, 3) := dk_182 0 149 (dk_at dksX2_line_8 1 rfl rfl)
theorem dX2_line_208 : decode cX2_line 208 = .ok (.goto 44, 3) := dk_167 0 44 (dk_at dksX2_line_8 4 rfl rfl)
theorem dX2_line_211 : decode cX2_line 211 = .ok (.aload_n 0, 1) := dk_42 (dk_at dksX2_line_8 7 rfl rfl)
theorem dX2_line_212 : decode cX2_line 212 = .ok (.invokevirtual 152, 3) := dk_182 0 152 (dk_at dksX2_line_8 8 rfl rfl)
theorem dX2_line_215 : decode cX2_line 215 = .ok (.goto 37, 3) := dk_167 0 37 (dk_at dksX2_line_8 11 rfl rfl)
theorem dX2_line_218 : decode cX2_line 218 = .ok (.aload_n 0, 1) := dk_42 (dk_at dksX2_line_8 14 rfl rfl)
theorem dX2_line_219 : decode cX2_line 219 = .ok (.invokevirtual 155, 3) := dk_182 0 155 (dk_at dksX2_line_8 15 rfl rfl)
theorem dX2_line_222 : decode cX2_line 222 = .ok (.goto 30, 3) := dk_167 0 30 (dk_at dksX2_line_8 18 rfl rfl)
theorem dX2_line_225 : decode cX2_line 225 = .ok (.aload_n 0, 1) := dk_42 (dk_at dksX2_line_8 21 rfl rfl)
theorem dX2_line_226 : decode cX2_line 226 = .ok (.invokevirtual 158, 3) := dk_182 0 158 (dk_at dksX2_line_9 0 rfl rfl)
theorem dX2_line_229 : decode cX2_line 229 = .ok (.goto 23, 3) := dk_167 0 23 (dk_at dksX2_line_9 3 rfl rfl)
theorem dX2_line_232 : decode cX2_line 232 = .ok (.aload_n 0, 1) := dk_42 (dk_at dksX2_line_9 6 rfl rfl)
theorem dX2_line_233 : decode cX2_line 233 = .ok (.invokevirtual 161, 3) := dk_182 0 161 (dk_at dksX2_line_9 7 rfl rfl)
theorem dX2_line_236 : decode cX2_line 236 = .ok (.goto 16, 3) := dk_167 0 16 (dk_at dksX2_line_9 10 rfl rfl)
theorem dX2_line_239 : decode cX2_line 239 = .ok (.aload_n 0, 1) := dk_42 (dk_at dksX2_line_9 13 rfl rfl)
theorem dX2_line_240 : decode cX2_line 240 = .ok (.invokevirtual 164, 3) := dk_182 0 164 (dk_at dksX2_line_9 14 rfl rfl)
theorem dX2_line_243 : decode cX2_line 243 = .ok (.goto 9, 3) := dk_167 0 9 (dk_at dksX2_line_9 17 rfl rfl)
theorem dX2_line_246 : decode cX2_line 246 = .ok (.aload_n 0, 1) := dk_42 (dk_at dksX2_line_9 20 rfl rfl)
theorem dX2_line_247 : decode cX2_line 247 = .ok (.iconst 1, 1) := dk_4 (dk_at dksX2_line_9 21 rfl rfl)
theorem dX2_line_248 : decode cX2_line 248 = .ok (.invokevirtual 82, 3) := dk_182 0 82 (dk_at dksX2_line_10 0 rfl rfl)
theorem dX2_line_251 : decode cX2_line 251 = .ok (.athrow, 1) := dk_191 (dk_at dksX2_line_10 3 rfl rfl)
theorem dX2_line_252 : decode cX2_line 252 = .ok (.return_, 1) := dk_177 (dk_at dksX2_line_10 4 rfl rfl)
abbrev cX2_fail : ByteArray := prog_15_method_2_code
def yX2_fail : MethodName := ⟨RX2, "fail", "(I)LElephantLine$Refused;"⟩
def dkwX2_fail_0 : List UInt8 := [42, 180, 0, 12, 27, 42, 180, 0, 26, 182, 0, 30, 176]
abbrev dktX2_fail_0 : List UInt8 := dkwX2_fail_0 ++ []
theorem dksX2_fail_0 : cX2_fail.data.toList.drop 0 = dktX2_fail_0 := by decide +kernel
theorem dX2_fail_0 : decode cX2_fail 0 = .ok (.aload_n 0, 1) := dk_42 (dk_at dksX2_fail_0 0 rfl rfl)
theorem dX2_fail_1 : decode cX2_fail 1 = .ok (.getfield 12, 3) := dk_180 0 12 (dk_at dksX2_fail_0 1 rfl rfl)
theorem dX2_fail_4 : decode cX2_fail 4 = .ok (.iload_n 1, 1) := dk_27 (dk_at dksX2_fail_0 4 rfl rfl)
theorem dX2_fail_5 : decode cX2_fail 5 = .ok (.aload_n 0, 1) := dk_42 (dk_at dksX2_fail_0 5 rfl rfl)
theorem dX2_fail_6 : decode cX2_fail 6 = .ok (.getfield 26, 3) := dk_180 0 26 (dk_at dksX2_fail_0 6 rfl rfl)
theorem dX2_fail_9 : decode cX2_fail 9 = .ok (.invokevirtual 30, 3) := dk_182 0 30 (dk_at dksX2_fail_0 9 rfl rfl)
theorem dX2_fail_12 : decode cX2_fail 12 = .ok (.areturn, 1) := dk_176 (dk_at dksX2_fail_0 12 rfl rfl)
abbrev cX2_fieldLine : ByteArray := prog_15_method_18_code
def yX2_fieldLine : MethodName := ⟨RX2, "fieldLine", "()V"⟩
def dkwX2_fieldLine_2 : List UInt8 := [180, 0, 105, 27, 181, 0, 132, 177]
abbrev dktX2_fieldLine_2 : List UInt8 := dkwX2_fieldLine_2 ++ []
def dkwX2_fieldLine_1 : List UInt8 := [16, 6, 182, 0, 168, 60, 42, 180, 0, 105, 42, 18, 172, 4, 8, 182, 0, 168, 181, 0, 174, 42]
abbrev dktX2_fieldLine_1 : List UInt8 := dkwX2_fieldLine_1 ++ dktX2_fieldLine_2
def dkwX2_fieldLine_0 : List UInt8 := [42, 180, 0, 105, 180, 0, 132, 158, 0, 9, 42, 6, 182, 0, 82, 191, 42, 182, 0, 75, 42, 18, 167, 5]
abbrev dktX2_fieldLine_0 : List UInt8 := dkwX2_fieldLine_0 ++ dktX2_fieldLine_1
theorem dksX2_fieldLine_0 : cX2_fieldLine.data.toList.drop 0 = dktX2_fieldLine_0 := by decide +kernel
theorem dksX2_fieldLine_1 : cX2_fieldLine.data.toList.drop 24 = dktX2_fieldLine_1 := dk_seg dksX2_fieldLine_0 24 rfl rfl
theorem dksX2_fieldLine_2 : cX2_fieldLine.data.toList.drop 46 = dktX2_fieldLine_2 := dk_seg dksX2_fieldLine_1 22 rfl rfl
theorem dX2_fieldLine_0 : decode cX2_fieldLine 0 = .ok (.aload_n 0, 1) := dk_42 (dk_at dksX2_fieldLine_0 0 rfl rfl)
theorem dX2_fieldLine_1 : decode cX2_fieldLine 1 = .ok (.getfield 105, 3) := dk_180 0 105 (dk_at dksX2_fieldLine_0 1 rfl rfl)
theorem dX2_fieldLine_4 : decode cX2_fieldLine 4 = .ok (.getfield 132, 3) := dk_180 0 132 (dk_at dksX2_fieldLine_0 4 rfl rfl)
theorem dX2_fieldLine_7 : decode cX2_fieldLine 7 = .ok (.ifCond .le 9, 3) := dk_158 0 9 (dk_at dksX2_fieldLine_0 7 rfl rfl)
theorem dX2_fieldLine_10 : decode cX2_fieldLine 10 = .ok (.aload_n 0, 1) := dk_42 (dk_at dksX2_fieldLine_0 10 rfl rfl)
theorem dX2_fieldLine_11 : decode cX2_fieldLine 11 = .ok (.iconst 3, 1) := dk_6 (dk_at dksX2_fieldLine_0 11 rfl rfl)
theorem dX2_fieldLine_12 : decode cX2_fieldLine 12 = .ok (.invokevirtual 82, 3) := dk_182 0 82 (dk_at dksX2_fieldLine_0 12 rfl rfl)
theorem dX2_fieldLine_15 : decode cX2_fieldLine 15 = .ok (.athrow, 1) := dk_191 (dk_at dksX2_fieldLine_0 15 rfl rfl)
theorem dX2_fieldLine_16 : decode cX2_fieldLine 16 = .ok (.aload_n 0, 1) := dk_42 (dk_at dksX2_fieldLine_0 16 rfl rfl)
theorem dX2_fieldLine_17 : decode cX2_fieldLine 17 = .ok (.invokevirtual 75, 3) := dk_182 0 75 (dk_at dksX2_fieldLine_0 17 rfl rfl)
theorem dX2_fieldLine_20 : decode cX2_fieldLine 20 = .ok (.aload_n 0, 1) := dk_42 (dk_at dksX2_fieldLine_0 20 rfl rfl)
theorem dX2_fieldLine_21 : decode cX2_fieldLine 21 = .ok (.ldc 167, 2) := dk_18 167 (dk_at dksX2_fieldLine_0 21 rfl rfl)
theorem dX2_fieldLine_23 : decode cX2_fieldLine 23 = .ok (.iconst 2, 1) := dk_5 (dk_at dksX2_fieldLine_0 23 rfl rfl)
theorem dX2_fieldLine_24 : decode cX2_fieldLine 24 = .ok (.bipush 6, 2) := dk_16 6 (dk_at dksX2_fieldLine_1 0 rfl rfl)
theorem dX2_fieldLine_26 : decode cX2_fieldLine 26 = .ok (.invokevirtual 168, 3) := dk_182 0 168 (dk_at dksX2_fieldLine_1 2 rfl rfl)
theorem dX2_fieldLine_29 : decode cX2_fieldLine 29 = .ok (.istore_n 1, 1) := dk_60 (dk_at dksX2_fieldLine_1 5 rfl rfl)
theorem dX2_fieldLine_30 : decode cX2_fieldLine 30 = .ok (.aload_n 0, 1) := dk_42 (dk_at dksX2_fieldLine_1 6 rfl rfl)
theorem dX2_fieldLine_31 : decode cX2_fieldLine 31 = .ok (.getfield 105, 3) := dk_180 0 105 (dk_at dksX2_fieldLine_1 7 rfl rfl)
theorem dX2_fieldLine_34 : decode cX2_fieldLine 34 = .ok (.aload_n 0, 1) := dk_42 (dk_at dksX2_fieldLine_1 10 rfl rfl)
theorem dX2_fieldLine_35 : decode cX2_fieldLine 35 = .ok (.ldc 172, 2) := dk_18 172 (dk_at dksX2_fieldLine_1 11 rfl rfl)
theorem dX2_fieldLine_37 : decode cX2_fieldLine 37 = .ok (.iconst 1, 1) := dk_4 (dk_at dksX2_fieldLine_1 13 rfl rfl)
theorem dX2_fieldLine_38 : decode cX2_fieldLine 38 = .ok (.iconst 5, 1) := dk_8 (dk_at dksX2_fieldLine_1 14 rfl rfl)
theorem dX2_fieldLine_39 : decode cX2_fieldLine 39 = .ok (.invokevirtual 168, 3) := dk_182 0 168 (dk_at dksX2_fieldLine_1 15 rfl rfl)
theorem dX2_fieldLine_42 : decode cX2_fieldLine 42 = .ok (.putfield 174, 3) := dk_181 0 174 (dk_at dksX2_fieldLine_1 18 rfl rfl)
theorem dX2_fieldLine_45 : decode cX2_fieldLine 45 = .ok (.aload_n 0, 1) := dk_42 (dk_at dksX2_fieldLine_1 21 rfl rfl)
theorem dX2_fieldLine_46 : decode cX2_fieldLine 46 = .ok (.getfield 105, 3) := dk_180 0 105 (dk_at dksX2_fieldLine_2 0 rfl rfl)
theorem dX2_fieldLine_49 : decode cX2_fieldLine 49 = .ok (.iload_n 1, 1) := dk_27 (dk_at dksX2_fieldLine_2 3 rfl rfl)
theorem dX2_fieldLine_50 : decode cX2_fieldLine 50 = .ok (.putfield 132, 3) := dk_181 0 132 (dk_at dksX2_fieldLine_2 4 rfl rfl)
theorem dX2_fieldLine_53 : decode cX2_fieldLine 53 = .ok (.return_, 1) := dk_177 (dk_at dksX2_fieldLine_2 7 rfl rfl)
abbrev cX2_after : ByteArray := prog_15_method_14_code
def yX2_after : MethodName := ⟨RX2, "after", "(Ljava/lang/String;II)I"⟩
def dkwX2_after_0 : List UInt8 := [42, 43, 182, 0, 126, 42, 28, 29, 182, 0, 130, 172]
abbrev dktX2_after_0 : List UInt8 := dkwX2_after_0 ++ []
theorem dksX2_after_0 : cX2_after.data.toList.drop 0 = dktX2_after_0 := by decide +kernel
theorem dX2_after_0 : decode cX2_after 0 = .ok (.aload_n 0, 1) := dk_42 (dk_at dksX2_after_0 0 rfl rfl)
theorem dX2_after_1 : decode cX2_after 1 = .ok (.aload_n 1, 1) := dk_43 (dk_at dksX2_after_0 1 rfl rfl)
theorem dX2_after_2 : decode cX2_after 2 = .ok (.invokevirtual 126, 3) := dk_182 0 126 (dk_at dksX2_after_0 2 rfl rfl)
theorem dX2_after_5 : decode cX2_after 5 = .ok (.aload_n 0, 1) := dk_42 (dk_at dksX2_after_0 5 rfl rfl)
theorem dX2_after_6 : decode cX2_after 6 = .ok (.iload_n 2, 1) := dk_28 (dk_at dksX2_after_0 6 rfl rfl)
theorem dX2_after_7 : decode cX2_after 7 = .ok (.iload_n 3, 1) := dk_29 (dk_at dksX2_after_0 7 rfl rfl)
theorem dX2_after_8 : decode cX2_after 8 = .ok (.invokevirtual 130, 3) := dk_182 0 130 (dk_at dksX2_after_0 8 rfl rfl)
theorem dX2_after_11 : decode cX2_after 11 = .ok (.ireturn, 1) := dk_172 (dk_at dksX2_after_0 11 rfl rfl)
abbrev cX2_must : ByteArray := prog_15_method_8_code
def yX2_must : MethodName := ⟨RX2, "must", "(Ljava/lang/String;)V"⟩
def dkwX2_must_0 : List UInt8 := [42, 43, 182, 0, 78, 154, 0, 9, 42, 4, 182, 0, 82, 191, 177]
abbrev dktX2_must_0 : List UInt8 := dkwX2_must_0 ++ []
theorem dksX2_must_0 : cX2_must.data.toList.drop 0 = dktX2_must_0 := by decide +kernel
theorem dX2_must_0 : decode cX2_must 0 = .ok (.aload_n 0, 1) := dk_42 (dk_at dksX2_must_0 0 rfl rfl)
theorem dX2_must_1 : decode cX2_must 1 = .ok (.aload_n 1, 1) := dk_43 (dk_at dksX2_must_0 1 rfl rfl)
theorem dX2_must_2 : decode cX2_must 2 = .ok (.invokevirtual 78, 3) := dk_182 0 78 (dk_at dksX2_must_0 2 rfl rfl)
theorem dX2_must_5 : decode cX2_must 5 = .ok (.ifCond .ne 9, 3) := dk_154 0 9 (dk_at dksX2_must_0 5 rfl rfl)
theorem dX2_must_8 : decode cX2_must 8 = .ok (.aload_n 0, 1) := dk_42 (dk_at dksX2_must_0 8 rfl rfl)
theorem dX2_must_9 : decode cX2_must 9 = .ok (.iconst 1, 1) := dk_4 (dk_at dksX2_must_0 9 rfl rfl)
theorem dX2_must_10 : decode cX2_must 10 = .ok (.invokevirtual 82, 3) := dk_182 0 82 (dk_at dksX2_must_0 10 rfl rfl)
theorem dX2_must_13 : decode cX2_must 13 = .ok (.athrow, 1) := dk_191 (dk_at dksX2_must_0 13 rfl rfl)
theorem dX2_must_14 : decode cX2_must 14 = .ok (.return_, 1) := dk_177 (dk_at dksX2_must_0 14 rfl rfl)
abbrev cX2_takes : ByteArray := prog_15_method_7_code
def yX2_takes : MethodName := ⟨RX2, "takes", "(Ljava/lang/String;)Z"⟩
def dkwX2_takes_1 : List UInt8 := [182, 0, 75, 4, 172]
abbrev dktX2_takes_1 : List UInt8 := dkwX2_takes_1 ++ []
def dkwX2_takes_0 : List UInt8 := [42, 180, 0, 47, 5, 160, 0, 14, 42, 180, 0, 61, 43, 182, 0, 71, 154, 0, 5, 3, 172, 42]
abbrev dktX2_takes_0 : List UInt8 := dkwX2_takes_0 ++ dktX2_takes_1
theorem dksX2_takes_0 : cX2_takes.data.toList.drop 0 = dktX2_takes_0 := by decide +kernel
theorem dksX2_takes_1 : cX2_takes.data.toList.drop 22 = dktX2_takes_1 := dk_seg dksX2_takes_0 22 rfl rfl
theorem dX2_takes_0 : decode cX2_takes 0 = .ok (.aload_n 0, 1) := dk_42 (dk_at dksX2_takes_0 0 rfl rfl)
theorem dX2_takes_1 : decode cX2_takes 1 = .ok (.getfield 47, 3) := dk_180 0 47 (dk_at dksX2_takes_0 1 rfl rfl)
theorem dX2_takes_4 : decode cX2_takes 4 = .ok (.iconst 2, 1) := dk_5 (dk_at dksX2_takes_0 4 rfl rfl)
theorem dX2_takes_5 : decode cX2_takes 5 = .ok (.if_icmp .ne 14, 3) := dk_160 0 14 (dk_at dksX2_takes_0 5 rfl rfl)
theorem dX2_takes_8 : decode cX2_takes 8 = .ok (.aload_n 0, 1) := dk_42 (dk_at dksX2_takes_0 8 rfl rfl)
theorem dX2_takes_9 : decode cX2_takes 9 = .ok (.getfield 61, 3) := dk_180 0 61 (dk_at dksX2_takes_0 9 rfl rfl)
theorem dX2_takes_12 : decode cX2_takes 12 = .ok (.aload_n 1, 1) := dk_43 (dk_at dksX2_takes_0 12 rfl rfl)
theorem dX2_takes_13 : decode cX2_takes 13 = .ok (.invokevirtual 71, 3) := dk_182 0 71 (dk_at dksX2_takes_0 13 rfl rfl)
theorem dX2_takes_16 : decode cX2_takes 16 = .ok (.ifCond .ne 5, 3) := dk_154 0 5 (dk_at dksX2_takes_0 16 rfl rfl)
theorem dX2_takes_19 : decode cX2_takes 19 = .ok (.iconst 0, 1) := dk_3 (dk_at dksX2_takes_0 19 rfl rfl)
theorem dX2_takes_20 : decode cX2_takes 20 = .ok (.ireturn, 1) := dk_172 (dk_at dksX2_takes_0 20 rfl rfl)
theorem dX2_takes_21 : decode cX2_takes 21 = .ok (.aload_n 0, 1) := dk_42 (dk_at dksX2_takes_0 21 rfl rfl)
theorem dX2_takes_22 : decode cX2_takes 22 = .ok (.invokevirtual 75, 3) := dk_182 0 75 (dk_at dksX2_takes_1 0 rfl rfl)
theorem dX2_takes_25 : decode cX2_takes 25 = .ok (.iconst 1, 1) := dk_4 (dk_at dksX2_takes_1 3 rfl rfl)
theorem dX2_takes_26 : decode cX2_takes 26 = .ok (.ireturn, 1) := dk_172 (dk_at dksX2_takes_1 4 rfl rfl)
abbrev cX2_number : ByteArray := prog_15_method_13_code
def yX2_number : MethodName := ⟨RX2, "number", "(II)I"⟩
def dkwX2_number_0 : List UInt8 := [42, 27, 28, 182, 0, 122, 62, 42, 182, 0, 75, 29, 172]
abbrev dktX2_number_0 : List UInt8 := dkwX2_number_0 ++ []
theorem dksX2_number_0 : cX2_number.data.toList.drop 0 = dktX2_number_0 := by decide +kernel
theorem dX2_number_0 : decode cX2_number 0 = .ok (.aload_n 0, 1) := dk_42 (dk_at dksX2_number_0 0 rfl rfl)
theorem dX2_number_1 : decode cX2_number 1 = .ok (.iload_n 1, 1) := dk_27 (dk_at dksX2_number_0 1 rfl rfl)
theorem dX2_number_2 : decode cX2_number 2 = .ok (.iload_n 2, 1) := dk_28 (dk_at dksX2_number_0 2 rfl rfl)
theorem dX2_number_3 : decode cX2_number 3 = .ok (.invokevirtual 122, 3) := dk_182 0 122 (dk_at dksX2_number_0 3 rfl rfl)
theorem dX2_number_6 : decode cX2_number 6 = .ok (.istore_n 3, 1) := dk_62 (dk_at dksX2_number_0 6 rfl rfl)
theorem dX2_number_7 : decode cX2_number 7 = .ok (.aload_n 0, 1) := dk_42 (dk_at dksX2_number_0 7 rfl rfl)
theorem dX2_number_8 : decode cX2_number 8 = .ok (.invokevirtual 75, 3) := dk_182 0 75 (dk_at dksX2_number_0 8 rfl rfl)
theorem dX2_number_11 : decode cX2_number 11 = .ok (.iload_n 3, 1) := dk_29 (dk_at dksX2_number_0 11 rfl rfl)
theorem dX2_number_12 : decode cX2_number 12 = .ok (.ireturn, 1) := dk_172 (dk_at dksX2_number_0 12 rfl rfl)
abbrev cX2_numberHere : ByteArray := prog_15_method_12_code
def yX2_numberHere : MethodName := ⟨RX2, "numberHere", "(II)I"⟩
def dkwX2_numberHere_1 : List UInt8 := [154, 0, 9, 42, 7, 182, 0, 82, 191, 42, 180, 0, 68, 172]
abbrev dktX2_numberHere_1 : List UInt8 := dkwX2_numberHere_1 ++ []
def dkwX2_numberHere_0 : List UInt8 := [42, 180, 0, 47, 6, 159, 0, 9, 42, 4, 182, 0, 82, 191, 42, 180, 0, 68, 27, 28, 184, 0, 36]
abbrev dktX2_numberHere_0 : List UInt8 := dkwX2_numberHere_0 ++ dktX2_numberHere_1
theorem dksX2_numberHere_0 : cX2_numberHere.data.toList.drop 0 = dktX2_numberHere_0 := by decide +kernel
theorem dksX2_numberHere_1 : cX2_numberHere.data.toList.drop 23 = dktX2_numberHere_1 := dk_seg dksX2_numberHere_0 23 rfl rfl
theorem dX2_numberHere_0 : decode cX2_numberHere 0 = .ok (.aload_n 0, 1) := dk_42 (dk_at dksX2_numberHere_0 0 rfl rfl)
theorem dX2_numberHere_1 : decode cX2_numberHere 1 = .ok (.getfield 47, 3) := dk_180 0 47 (dk_at dksX2_numberHere_0 1 rfl rfl)
theorem dX2_numberHere_4 : decode cX2_numberHere 4 = .ok (.iconst 3, 1) := dk_6 (dk_at dksX2_numberHere_0 4 rfl rfl)
theorem dX2_numberHere_5 : decode cX2_numberHere 5 = .ok (.if_icmp .eq 9, 3) := dk_159 0 9 (dk_at dksX2_numberHere_0 5 rfl rfl)
theorem dX2_numberHere_8 : decode cX2_numberHere 8 = .ok (.aload_n 0, 1) := dk_42 (dk_at dksX2_numberHere_0 8 rfl rfl)
theorem dX2_numberHere_9 : decode cX2_numberHere 9 = .ok (.iconst 1, 1) := dk_4 (dk_at dksX2_numberHere_0 9 rfl rfl)
theorem dX2_numberHere_10 : decode cX2_numberHere 10 = .ok (.invokevirtual 82, 3) := dk_182 0 82 (dk_at dksX2_numberHere_0 10 rfl rfl)
theorem dX2_numberHere_13 : decode cX2_numberHere 13 = .ok (.athrow, 1) := dk_191 (dk_at dksX2_numberHere_0 13 rfl rfl)
theorem dX2_numberHere_14 : decode cX2_numberHere 14 = .ok (.aload_n 0, 1) := dk_42 (dk_at dksX2_numberHere_0 14 rfl rfl)
theorem dX2_numberHere_15 : decode cX2_numberHere 15 = .ok (.getfield 68, 3) := dk_180 0 68 (dk_at dksX2_numberHere_0 15 rfl rfl)
theorem dX2_numberHere_18 : decode cX2_numberHere 18 = .ok (.iload_n 1, 1) := dk_27 (dk_at dksX2_numberHere_0 18 rfl rfl)
theorem dX2_numberHere_19 : decode cX2_numberHere 19 = .ok (.iload_n 2, 1) := dk_28 (dk_at dksX2_numberHere_0 19 rfl rfl)
theorem dX2_numberHere_20 : decode cX2_numberHere 20 = .ok (.invokestatic 36, 3) := dk_184 0 36 (dk_at dksX2_numberHere_0 20 rfl rfl)
theorem dX2_numberHere_23 : decode cX2_numberHere 23 = .ok (.ifCond .ne 9, 3) := dk_154 0 9 (dk_at dksX2_numberHere_1 0 rfl rfl)
theorem dX2_numberHere_26 : decode cX2_numberHere 26 = .ok (.aload_n 0, 1) := dk_42 (dk_at dksX2_numberHere_1 3 rfl rfl)
theorem dX2_numberHere_27 : decode cX2_numberHere 27 = .ok (.iconst 4, 1) := dk_7 (dk_at dksX2_numberHere_1 4 rfl rfl)
theorem dX2_numberHere_28 : decode cX2_numberHere 28 = .ok (.invokevirtual 82, 3) := dk_182 0 82 (dk_at dksX2_numberHere_1 5 rfl rfl)
theorem dX2_numberHere_31 : decode cX2_numberHere 31 = .ok (.athrow, 1) := dk_191 (dk_at dksX2_numberHere_1 8 rfl rfl)
theorem dX2_numberHere_32 : decode cX2_numberHere 32 = .ok (.aload_n 0, 1) := dk_42 (dk_at dksX2_numberHere_1 9 rfl rfl)
theorem dX2_numberHere_33 : decode cX2_numberHere 33 = .ok (.getfield 68, 3) := dk_180 0 68 (dk_at dksX2_numberHere_1 10 rfl rfl)
theorem dX2_numberHere_36 : decode cX2_numberHere 36 = .ok (.ireturn, 1) := dk_172 (dk_at dksX2_numberHere_1 13 rfl rfl)
abbrev cX2_laneLine : ByteArray := prog_15_method_20_code
def yX2_laneLine : MethodName := ⟨RX2, "laneLine", "()V"⟩
def dkwX2_laneLine_2 : List UInt8 := [180, 0, 142, 27, 42, 27, 182, 0, 201, 83, 42, 180, 0, 105, 89, 180, 0, 205, 4, 96, 181, 0, 205, 177]
abbrev dktX2_laneLine_2 : List UInt8 := dkwX2_laneLine_2 ++ []
def dkwX2_laneLine_1 : List UInt8 := [180, 0, 142, 27, 50, 198, 0, 9, 42, 6, 182, 0, 82, 191, 42, 182, 0, 75, 42, 180, 0, 105]
abbrev dktX2_laneLine_1 : List UInt8 := dkwX2_laneLine_1 ++ dktX2_laneLine_2
def dkwX2_laneLine_0 : List UInt8 := [42, 4, 182, 0, 197, 42, 3, 42, 180, 0, 105, 180, 0, 132, 4, 100, 182, 0, 122, 60, 42, 180, 0, 105]
abbrev dktX2_laneLine_0 : List UInt8 := dkwX2_laneLine_0 ++ dktX2_laneLine_1
theorem dksX2_laneLine_0 : cX2_laneLine.data.toList.drop 0 = dktX2_laneLine_0 := by decide +kernel
theorem dksX2_laneLine_1 : cX2_laneLine.data.toList.drop 24 = dktX2_laneLine_1 := dk_seg dksX2_laneLine_0 24 rfl rfl
theorem dksX2_laneLine_2 : cX2_laneLine.data.toList.drop 46 = dktX2_laneLine_2 := dk_seg dksX2_laneLine_1 22 rfl rfl
theorem dX2_laneLine_0 : decode cX2_laneLine 0 = .ok (.aload_n 0, 1) := dk_42 (dk_at dksX2_laneLine_0 0 rfl rfl)
theorem dX2_laneLine_1 : decode cX2_laneLine 1 = .ok (.iconst 1, 1) := dk_4 (dk_at dksX2_laneLine_0 1 rfl rfl)
theorem dX2_laneLine_2 : decode cX2_laneLine 2 = .ok (.invokevirtual 197, 3) := dk_182 0 197 (dk_at dksX2_laneLine_0 2 rfl rfl)
theorem dX2_laneLine_5 : decode cX2_laneLine 5 = .ok (.aload_n 0, 1) := dk_42 (dk_at dksX2_laneLine_0 5 rfl rfl)
theorem dX2_laneLine_6 : decode cX2_laneLine 6 = .ok (.iconst 0, 1) := dk_3 (dk_at dksX2_laneLine_0 6 rfl rfl)
theorem dX2_laneLine_7 : decode cX2_laneLine 7 = .ok (.aload_n 0, 1) := dk_42 (dk_at dksX2_laneLine_0 7 rfl rfl)
theorem dX2_laneLine_8 : decode cX2_laneLine 8 = .ok (.getfield 105, 3) := dk_180 0 105 (dk_at dksX2_laneLine_0 8 rfl rfl)
theorem dX2_laneLine_11 : decode cX2_laneLine 11 = .ok (.getfield 132, 3) := dk_180 0 132 (dk_at dksX2_laneLine_0 11 rfl rfl)
theorem dX2_laneLine_14 : decode cX2_laneLine 14 = .ok (.iconst 1, 1) := dk_4 (dk_at dksX2_laneLine_0 14 rfl rfl)
theorem dX2_laneLine_15 : decode cX2_laneLine 15 = .ok (.isub, 1) := dk_100 (dk_at dksX2_laneLine_0 15 rfl rfl)
theorem dX2_laneLine_16 : decode cX2_laneLine 16 = .ok (.invokevirtual 122, 3) := dk_182 0 122 (dk_at dksX2_laneLine_0 16 rfl rfl)
theorem dX2_laneLine_19 : decode cX2_laneLine 19 = .ok (.istore_n 1, 1) := dk_60 (dk_at dksX2_laneLine_0 19 rfl rfl)
theorem dX2_laneLine_20 : decode cX2_laneLine 20 = .ok (.aload_n 0, 1) := dk_42 (dk_at dksX2_laneLine_0 20 rfl rfl)
theorem dX2_laneLine_21 : decode cX2_laneLine 21 = .ok (.getfield 105, 3) := dk_180 0 105 (dk_at dksX2_laneLine_0 21 rfl rfl)
theorem dX2_laneLine_24 : decode cX2_laneLine 24 = .ok (.getfield 142, 3) := dk_180 0 142 (dk_at dksX2_laneLine_1 0 rfl rfl)
theorem dX2_laneLine_27 : decode cX2_laneLine 27 = .ok (.iload_n 1, 1) := dk_27 (dk_at dksX2_laneLine_1 3 rfl rfl)
theorem dX2_laneLine_28 : decode cX2_laneLine 28 = .ok (.aaload, 1) := dk_50 (dk_at dksX2_laneLine_1 4 rfl rfl)
theorem dX2_laneLine_29 : decode cX2_laneLine 29 = .ok (.ifnull 9, 3) := dk_198 0 9 (dk_at dksX2_laneLine_1 5 rfl rfl)
theorem dX2_laneLine_32 : decode cX2_laneLine 32 = .ok (.aload_n 0, 1) := dk_42 (dk_at dksX2_laneLine_1 8 rfl rfl)
theorem dX2_laneLine_33 : decode cX2_laneLine 33 = .ok (.iconst 3, 1) := dk_6 (dk_at dksX2_laneLine_1 9 rfl rfl)
theorem dX2_laneLine_34 : decode cX2_laneLine 34 = .ok (.invokevirtual 82, 3) := dk_182 0 82 (dk_at dksX2_laneLine_1 10 rfl rfl)
theorem dX2_laneLine_37 : decode cX2_laneLine 37 = .ok (.athrow, 1) := dk_191 (dk_at dksX2_laneLine_1 13 rfl rfl)
theorem dX2_laneLine_38 : decode cX2_laneLine 38 = .ok (.aload_n 0, 1) := dk_42 (dk_at dksX2_laneLine_1 14 rfl rfl)
theorem dX2_laneLine_39 : decode cX2_laneLine 39 = .ok (.invokevirtual 75, 3) := dk_182 0 75 (dk_at dksX2_laneLine_1 15 rfl rfl)
theorem dX2_laneLine_42 : decode cX2_laneLine 42 = .ok (.aload_n 0, 1) := dk_42 (dk_at dksX2_laneLine_1 18 rfl rfl)
theorem dX2_laneLine_43 : decode cX2_laneLine 43 = .ok (.getfield 105, 3) := dk_180 0 105 (dk_at dksX2_laneLine_1 19 rfl rfl)
theorem dX2_laneLine_46 : decode cX2_laneLine 46 = .ok (.getfield 142, 3) := dk_180 0 142 (dk_at dksX2_laneLine_2 0 rfl rfl)
theorem dX2_laneLine_49 : decode cX2_laneLine 49 = .ok (.iload_n 1, 1) := dk_27 (dk_at dksX2_laneLine_2 3 rfl rfl)
theorem dX2_laneLine_50 : decode cX2_laneLine 50 = .ok (.aload_n 0, 1) := dk_42 (dk_at dksX2_laneLine_2 4 rfl rfl)
theorem dX2_laneLine_51 : decode cX2_laneLine 51 = .ok (.iload_n 1, 1) := dk_27 (dk_at dksX2_laneLine_2 5 rfl rfl)
theorem dX2_laneLine_52 : decode cX2_laneLine 52 = .ok (.invokevirtual 201, 3) := dk_182 0 201 (dk_at dksX2_laneLine_2 6 rfl rfl)
theorem dX2_laneLine_55 : decode cX2_laneLine 55 = .ok (.aastore, 1) := dk_83 (dk_at dksX2_laneLine_2 9 rfl rfl)
theorem dX2_laneLine_56 : decode cX2_laneLine 56 = .ok (.aload_n 0, 1) := dk_42 (dk_at dksX2_laneLine_2 10 rfl rfl)
theorem dX2_laneLine_57 : decode cX2_laneLine 57 = .ok (.getfield 105, 3) := dk_180 0 105 (dk_at dksX2_laneLine_2 11 rfl rfl)
theorem dX2_laneLine_60 : decode cX2_laneLine 60 = .ok (.dup, 1) := dk_89 (dk_at dksX2_laneLine_2 14 rfl rfl)
theorem dX2_laneLine_61 : decode cX2_laneLine 61 = .ok (.getfield 205, 3) := dk_180 0 205 (dk_at dksX2_laneLine_2 15 rfl rfl)
theorem dX2_laneLine_64 : decode cX2_laneLine 64 = .ok (.iconst 1, 1) := dk_4 (dk_at dksX2_laneLine_2 18 rfl rfl)
theorem dX2_laneLine_65 : decode cX2_laneLine 65 = .ok (.iadd, 1) := dk_96 (dk_at dksX2_laneLine_2 19 rfl rfl)
theorem dX2_laneLine_66 : decode cX2_laneLine 66 = .ok (.putfield 205, 3) := dk_181 0 205 (dk_at dksX2_laneLine_2 20 rfl rfl)
theorem dX2_laneLine_69 : decode cX2_laneLine 69 = .ok (.return_, 1) := dk_177 (dk_at dksX2_laneLine_2 23 rfl rfl)
abbrev cX2_begins : ByteArray := prog_15_method_15_code
def yX2_begins : MethodName := ⟨RX2, "begins", "(Z)V"⟩
def dkwX2_begins_1 : List UInt8 := [182, 0, 82, 191, 42, 182, 0, 75, 177]
abbrev dktX2_begins_1 : List UInt8 := dkwX2_begins_1 ++ []
def dkwX2_begins_0 : List UInt8 := [27, 154, 0, 9, 42, 8, 182, 0, 82, 191, 42, 180, 0, 105, 180, 0, 132, 154, 0, 10, 42, 16, 6]
abbrev dktX2_begins_0 : List UInt8 := dkwX2_begins_0 ++ dktX2_begins_1
theorem dksX2_begins_0 : cX2_begins.data.toList.drop 0 = dktX2_begins_0 := by decide +kernel
theorem dksX2_begins_1 : cX2_begins.data.toList.drop 23 = dktX2_begins_1 := dk_seg dksX2_begins_0 23 rfl rfl
theorem dX2_begins_0 : decode cX2_begins 0 = .ok (.iload_n 1, 1) := dk_27 (dk_at dksX2_begins_0 0 rfl rfl)
theorem dX2_begins_1 : decode cX2_begins 1 = .ok (.ifCond .ne 9, 3) := dk_154 0 9 (dk_at dksX2_begins_0 1 rfl rfl)
theorem dX2_begins_4 : decode cX2_begins 4 = .ok (.aload_n 0, 1) := dk_42 (dk_at dksX2_begins_0 4 rfl rfl)
theorem dX2_begins_5 : decode cX2_begins 5 = .ok (.iconst 5, 1) := dk_8 (dk_at dksX2_begins_0 5 rfl rfl)
theorem dX2_begins_6 : decode cX2_begins 6 = .ok (.invokevirtual 82, 3) := dk_182 0 82 (dk_at dksX2_begins_0 6 rfl rfl)
theorem dX2_begins_9 : decode cX2_begins 9 = .ok (.athrow, 1) := dk_191 (dk_at dksX2_begins_0 9 rfl rfl)
theorem dX2_begins_10 : decode cX2_begins 10 = .ok (.aload_n 0, 1) := dk_42 (dk_at dksX2_begins_0 10 rfl rfl)
theorem dX2_begins_11 : decode cX2_begins 11 = .ok (.getfield 105, 3) := dk_180 0 105 (dk_at dksX2_begins_0 11 rfl rfl)
theorem dX2_begins_14 : decode cX2_begins 14 = .ok (.getfield 132, 3) := dk_180 0 132 (dk_at dksX2_begins_0 14 rfl rfl)
theorem dX2_begins_17 : decode cX2_begins 17 = .ok (.ifCond .ne 10, 3) := dk_154 0 10 (dk_at dksX2_begins_0 17 rfl rfl)
theorem dX2_begins_20 : decode cX2_begins 20 = .ok (.aload_n 0, 1) := dk_42 (dk_at dksX2_begins_0 20 rfl rfl)
theorem dX2_begins_21 : decode cX2_begins 21 = .ok (.bipush 6, 2) := dk_16 6 (dk_at dksX2_begins_0 21 rfl rfl)
theorem dX2_begins_23 : decode cX2_begins 23 = .ok (.invokevirtual 82, 3) := dk_182 0 82 (dk_at dksX2_begins_1 0 rfl rfl)
theorem dX2_begins_26 : decode cX2_begins 26 = .ok (.athrow, 1) := dk_191 (dk_at dksX2_begins_1 3 rfl rfl)
theorem dX2_begins_27 : decode cX2_begins 27 = .ok (.aload_n 0, 1) := dk_42 (dk_at dksX2_begins_1 4 rfl rfl)
theorem dX2_begins_28 : decode cX2_begins 28 = .ok (.invokevirtual 75, 3) := dk_182 0 75 (dk_at dksX2_begins_1 5 rfl rfl)
theorem dX2_begins_31 : decode cX2_begins 31 = .ok (.return_, 1) := dk_177 (dk_at dksX2_begins_1 8 rfl rfl)
abbrev cX2_standOf : ByteArray := prog_15_method_19_code
def yX2_standOf : MethodName := ⟨RX2, "standOf", "(I)LElephantLine$Stand;"⟩
def dkwX2_standOf_3 : List UInt8 := [180, 0, 185, 27, 42, 18, 192, 3, 16, 30, 182, 0, 168, 79, 187, 0, 194, 89, 183, 0, 196, 176]
abbrev dktX2_standOf_3 : List UInt8 := dkwX2_standOf_3 ++ []
def dkwX2_standOf_2 : List UInt8 := [180, 0, 185, 27, 42, 3, 16, 60, 182, 0, 130, 79, 187, 0, 189, 89, 183, 0, 191, 176, 42, 180, 0, 105]
abbrev dktX2_standOf_2 : List UInt8 := dkwX2_standOf_2 ++ dktX2_standOf_3
def dkwX2_standOf_1 : List UInt8 := [153, 0, 11, 187, 0, 180, 89, 183, 0, 182, 176, 42, 18, 183, 182, 0, 78, 153, 0, 27, 42, 180, 0, 105]
abbrev dktX2_standOf_1 : List UInt8 := dkwX2_standOf_1 ++ dktX2_standOf_2
def dkwX2_standOf_0 : List UInt8 := [42, 18, 176, 182, 0, 78, 153, 0, 11, 187, 0, 146, 89, 183, 0, 148, 176, 42, 18, 178, 182, 0, 78]
abbrev dktX2_standOf_0 : List UInt8 := dkwX2_standOf_0 ++ dktX2_standOf_1
theorem dksX2_standOf_0 : cX2_standOf.data.toList.drop 0 = dktX2_standOf_0 := by decide +kernel
theorem dksX2_standOf_1 : cX2_standOf.data.toList.drop 23 = dktX2_standOf_1 := dk_seg dksX2_standOf_0 23 rfl rfl
theorem dksX2_standOf_2 : cX2_standOf.data.toList.drop 47 = dktX2_standOf_2 := dk_seg dksX2_standOf_1 24 rfl rfl
theorem dksX2_standOf_3 : cX2_standOf.data.toList.drop 71 = dktX2_standOf_3 := dk_seg dksX2_standOf_2 24 rfl rfl
theorem dX2_standOf_0 : decode cX2_standOf 0 = .ok (.aload_n 0, 1) := dk_42 (dk_at dksX2_standOf_0 0 rfl rfl)
theorem dX2_standOf_1 : decode cX2_standOf 1 = .ok (.ldc 176, 2) := dk_18 176 (dk_at dksX2_standOf_0 1 rfl rfl)
theorem dX2_standOf_3 : decode cX2_standOf 3 = .ok (.invokevirtual 78, 3) := dk_182 0 78 (dk_at dksX2_standOf_0 3 rfl rfl)
theorem dX2_standOf_6 : decode cX2_standOf 6 = .ok (.ifCond .eq 11, 3) := dk_153 0 11 (dk_at dksX2_standOf_0 6 rfl rfl)
theorem dX2_standOf_9 : decode cX2_standOf 9 = .ok (.new 146, 3) := dk_187 0 146 (dk_at dksX2_standOf_0 9 rfl rfl)
theorem dX2_standOf_12 : decode cX2_standOf 12 = .ok (.dup, 1) := dk_89 (dk_at dksX2_standOf_0 12 rfl rfl)
theorem dX2_standOf_13 : decode cX2_standOf 13 = .ok (.invokespecial 148, 3) := dk_183 0 148 (dk_at dksX2_standOf_0 13 rfl rfl)
theorem dX2_standOf_16 : decode cX2_standOf 16 = .ok (.areturn, 1) := dk_176 (dk_at dksX2_standOf_0 16 rfl rfl)
theorem dX2_standOf_17 : decode cX2_standOf 17 = .ok (.aload_n 0, 1) := dk_42 (dk_at dksX2_standOf_0 17 rfl rfl)
theorem dX2_standOf_18 : decode cX2_standOf 18 = .ok (.ldc 178, 2) := dk_18 178 (dk_at dksX2_standOf_0 18 rfl rfl)
theorem dX2_standOf_20 : decode cX2_standOf 20 = .ok (.invokevirtual 78, 3) := dk_182 0 78 (dk_at dksX2_standOf_0 20 rfl rfl)
theorem dX2_standOf_23 : decode cX2_standOf 23 = .ok (.ifCond .eq 11, 3) := dk_153 0 11 (dk_at dksX2_standOf_1 0 rfl rfl)
theorem dX2_standOf_26 : decode cX2_standOf 26 = .ok (.new 180, 3) := dk_187 0 180 (dk_at dksX2_standOf_1 3 rfl rfl)
theorem dX2_standOf_29 : decode cX2_standOf 29 = .ok (.dup, 1) := dk_89 (dk_at dksX2_standOf_1 6 rfl rfl)
theorem dX2_standOf_30 : decode cX2_standOf 30 = .ok (.invokespecial 182, 3) := dk_183 0 182 (dk_at dksX2_standOf_1 7 rfl rfl)
theorem dX2_standOf_33 : decode cX2_standOf 33 = .ok (.areturn, 1) := dk_176 (dk_at dksX2_standOf_1 10 rfl rfl)
theorem dX2_standOf_34 : decode cX2_standOf 34 = .ok (.aload_n 0, 1) := dk_42 (dk_at dksX2_standOf_1 11 rfl rfl)
theorem dX2_standOf_35 : decode cX2_standOf 35 = .ok (.ldc 183, 2) := dk_18 183 (dk_at dksX2_standOf_1 12 rfl rfl)
theorem dX2_standOf_37 : decode cX2_standOf 37 = .ok (.invokevirtual 78, 3) := dk_182 0 78 (dk_at dksX2_standOf_1 14 rfl rfl)
theorem dX2_standOf_40 : decode cX2_standOf 40 = .ok (.ifCond .eq 27, 3) := dk_153 0 27 (dk_at dksX2_standOf_1 17 rfl rfl)
theorem dX2_standOf_43 : decode cX2_standOf 43 = .ok (.aload_n 0, 1) := dk_42 (dk_at dksX2_standOf_1 20 rfl rfl)
theorem dX2_standOf_44 : decode cX2_standOf 44 = .ok (.getfield 105, 3) := dk_180 0 105 (dk_at dksX2_standOf_1 21 rfl rfl)
theorem dX2_standOf_47 : decode cX2_standOf 47 = .ok (.getfield 185, 3) := dk_180 0 185 (dk_at dksX2_standOf_2 0 rfl rfl)
theorem dX2_standOf_50 : decode cX2_standOf 50 = .ok (.iload_n 1, 1) := dk_27 (dk_at dksX2_standOf_2 3 rfl rfl)
theorem dX2_standOf_51 : decode cX2_standOf 51 = .ok (.aload_n 0, 1) := dk_42 (dk_at dksX2_standOf_2 4 rfl rfl)
theorem dX2_standOf_52 : decode cX2_standOf 52 = .ok (.iconst 0, 1) := dk_3 (dk_at dksX2_standOf_2 5 rfl rfl)
theorem dX2_standOf_53 : decode cX2_standOf 53 = .ok (.bipush 60, 2) := dk_16 60 (dk_at dksX2_standOf_2 6 rfl rfl)
theorem dX2_standOf_55 : decode cX2_standOf 55 = .ok (.invokevirtual 130, 3) := dk_182 0 130 (dk_at dksX2_standOf_2 8 rfl rfl)
theorem dX2_standOf_58 : decode cX2_standOf 58 = .ok (.iastore, 1) := dk_79 (dk_at dksX2_standOf_2 11 rfl rfl)
theorem dX2_standOf_59 : decode cX2_standOf 59 = .ok (.new 189, 3) := dk_187 0 189 (dk_at dksX2_standOf_2 12 rfl rfl)
theorem dX2_standOf_62 : decode cX2_standOf 62 = .ok (.dup, 1) := dk_89 (dk_at dksX2_standOf_2 15 rfl rfl)
theorem dX2_standOf_63 : decode cX2_standOf 63 = .ok (.invokespecial 191, 3) := dk_183 0 191 (dk_at dksX2_standOf_2 16 rfl rfl)
theorem dX2_standOf_66 : decode cX2_standOf 66 = .ok (.areturn, 1) := dk_176 (dk_at dksX2_standOf_2 19 rfl rfl)
theorem dX2_standOf_67 : decode cX2_standOf 67 = .ok (.aload_n 0, 1) := dk_42 (dk_at dksX2_standOf_2 20 rfl rfl)
theorem dX2_standOf_68 : decode cX2_standOf 68 = .ok (.getfield 105, 3) := dk_180 0 105 (dk_at dksX2_standOf_2 21 rfl rfl)
theorem dX2_standOf_71 : decode cX2_standOf 71 = .ok (.getfield 185, 3) := dk_180 0 185 (dk_at dksX2_standOf_3 0 rfl rfl)
theorem dX2_standOf_74 : decode cX2_standOf 74 = .ok (.iload_n 1, 1) := dk_27 (dk_at dksX2_standOf_3 3 rfl rfl)
theorem dX2_standOf_75 : decode cX2_standOf 75 = .ok (.aload_n 0, 1) := dk_42 (dk_at dksX2_standOf_3 4 rfl rfl)
theorem dX2_standOf_76 : decode cX2_standOf 76 = .ok (.ldc 192, 2) := dk_18 192 (dk_at dksX2_standOf_3 5 rfl rfl)
theorem dX2_standOf_78 : decode cX2_standOf 78 = .ok (.iconst 0, 1) := dk_3 (dk_at dksX2_standOf_3 7 rfl rfl)
theorem dX2_standOf_79 : decode cX2_standOf 79 = .ok (.bipush 30, 2) := dk_16 30 (dk_at dksX2_standOf_3 8 rfl rfl)
theorem dX2_standOf_81 : decode cX2_standOf 81 = .ok (.invokevirtual 168, 3) := dk_182 0 168 (dk_at dksX2_standOf_3 10 rfl rfl)
theorem dX2_standOf_84 : decode cX2_standOf 84 = .ok (.iastore, 1) := dk_79 (dk_at dksX2_standOf_3 13 rfl rfl)
theorem dX2_standOf_85 : decode cX2_standOf 85 = .ok (.new 194, 3) := dk_187 0 194 (dk_at dksX2_standOf_3 14 rfl rfl)
theorem dX2_standOf_88 : decode cX2_standOf 88 = .ok (.dup, 1) := dk_89 (dk_at dksX2_standOf_3 17 rfl rfl)
theorem dX2_standOf_89 : decode cX2_standOf 89 = .ok (.invokespecial 196, 3) := dk_183 0 196 (dk_at dksX2_standOf_3 18 rfl rfl)
theorem dX2_standOf_92 : decode cX2_standOf 92 = .ok (.areturn, 1) := dk_176 (dk_at dksX2_standOf_3 21 rfl rfl)
abbrev cX2_beastLine : ByteArray := prog_15_method_22_code
def yX2_beastLine : MethodName := ⟨RX2, "beastLine", "()V"⟩
def dkwX2_beastLine_4 : List UInt8 := [180, 0, 139, 43, 83, 42, 180, 0, 105, 89, 180, 0, 139, 4, 96, 181, 0, 139, 177]
abbrev dktX2_beastLine_4 : List UInt8 := dkwX2_beastLine_4 ++ []
def dkwX2_beastLine_3 : List UInt8 := [43, 42, 18, 247, 4, 16, 99, 182, 0, 168, 181, 0, 249, 42, 180, 0, 105, 180, 0, 251, 42, 180, 0, 105]
abbrev dktX2_beastLine_3 : List UInt8 := dkwX2_beastLine_3 ++ dktX2_beastLine_4
def dkwX2_beastLine_2 : List UInt8 := [180, 0, 132, 4, 100, 182, 0, 168, 181, 0, 239, 43, 42, 18, 243, 3, 16, 100, 182, 0, 168, 181, 0, 245]
abbrev dktX2_beastLine_2 : List UInt8 := dkwX2_beastLine_2 ++ dktX2_beastLine_3
def dkwX2_beastLine_1 : List UInt8 := [182, 0, 230, 42, 180, 0, 105, 180, 0, 139, 182, 0, 234, 76, 43, 42, 18, 238, 3, 42, 180, 0, 105]
abbrev dktX2_beastLine_1 : List UInt8 := dkwX2_beastLine_1 ++ dktX2_beastLine_2
def dkwX2_beastLine_0 : List UInt8 := [42, 42, 180, 0, 105, 180, 0, 139, 8, 162, 0, 7, 4, 167, 0, 4, 3, 182, 0, 197, 42, 42]
abbrev dktX2_beastLine_0 : List UInt8 := dkwX2_beastLine_0 ++ dktX2_beastLine_1
theorem dksX2_beastLine_0 : cX2_beastLine.data.toList.drop 0 = dktX2_beastLine_0 := by decide +kernel
theorem dksX2_beastLine_1 : cX2_beastLine.data.toList.drop 22 = dktX2_beastLine_1 := dk_seg dksX2_beastLine_0 22 rfl rfl
theorem dksX2_beastLine_2 : cX2_beastLine.data.toList.drop 45 = dktX2_beastLine_2 := dk_seg dksX2_beastLine_1 23 rfl rfl
theorem dksX2_beastLine_3 : cX2_beastLine.data.toList.drop 69 = dktX2_beastLine_3 := dk_seg dksX2_beastLine_2 24 rfl rfl
theorem dksX2_beastLine_4 : cX2_beastLine.data.toList.drop 93 = dktX2_beastLine_4 := dk_seg dksX2_beastLine_3 24 rfl rfl
theorem dX2_beastLine_0 : decode cX2_beastLine 0 = .ok (.aload_n 0, 1) := dk_42 (dk_at dksX2_beastLine_0 0 rfl rfl)
theorem dX2_beastLine_1 : decode cX2_beastLine 1 = .ok (.aload_n 0, 1) := dk_42 (dk_at dksX2_beastLine_0 1 rfl rfl)
theorem dX2_beastLine_2 : decode cX2_beastLine 2 = .ok (.getfield 105, 3) := dk_180 0 105 (dk_at dksX2_beastLine_0 2 rfl rfl)
theorem dX2_beastLine_5 : decode cX2_beastLine 5 = .ok (.getfield 139, 3) := dk_180 0 139 (dk_at dksX2_beastLine_0 5 rfl rfl)
theorem dX2_beastLine_8 : decode cX2_beastLine 8 = .ok (.iconst 5, 1) := dk_8 (dk_at dksX2_beastLine_0 8 rfl rfl)
theorem dX2_beastLine_9 : decode cX2_beastLine 9 = .ok (.if_icmp .ge 7, 3) := dk_162 0 7 (dk_at dksX2_beastLine_0 9 rfl rfl)
theorem dX2_beastLine_12 : decode cX2_beastLine 12 = .ok (.iconst 1, 1) := dk_4 (dk_at dksX2_beastLine_0 12 rfl rfl)
theorem dX2_beastLine_13 : decode cX2_beastLine 13 = .ok (.goto 4, 3) := dk_167 0 4 (dk_at dksX2_beastLine_0 13 rfl rfl)
theorem dX2_beastLine_16 : decode cX2_beastLine 16 = .ok (.iconst 0, 1) := dk_3 (dk_at dksX2_beastLine_0 16 rfl rfl)
theorem dX2_beastLine_17 : decode cX2_beastLine 17 = .ok (.invokevirtual 197, 3) := dk_182 0 197 (dk_at dksX2_beastLine_0 17 rfl rfl)
theorem dX2_beastLine_20 : decode cX2_beastLine 20 = .ok (.aload_n 0, 1) := dk_42 (dk_at dksX2_beastLine_0 20 rfl rfl)
theorem dX2_beastLine_21 : decode cX2_beastLine 21 = .ok (.aload_n 0, 1) := dk_42 (dk_at dksX2_beastLine_0 21 rfl rfl)
theorem dX2_beastLine_22 : decode cX2_beastLine 22 = .ok (.invokevirtual 230, 3) := dk_182 0 230 (dk_at dksX2_beastLine_1 0 rfl rfl)
theorem dX2_beastLine_25 : decode cX2_beastLine 25 = .ok (.aload_n 0, 1) := dk_42 (dk_at dksX2_beastLine_1 3 rfl rfl)
theorem dX2_beastLine_26 : decode cX2_beastLine 26 = .ok (.getfield 105, 3) := dk_180 0 105 (dk_at dksX2_beastLine_1 4 rfl rfl)
theorem dX2_beastLine_29 : decode cX2_beastLine 29 = .ok (.getfield 139, 3) := dk_180 0 139 (dk_at dksX2_beastLine_1 7 rfl rfl)
theorem dX2_beastLine_32 : decode cX2_beastLine 32 = .ok (.invokevirtual 234, 3) := dk_182 0 234 (dk_at dksX2_beastLine_1 10 rfl rfl)
theorem dX2_beastLine_35 : decode cX2_beastLine 35 = .ok (.astore_n 1, 1) := dk_76 (dk_at dksX2_beastLine_1 13 rfl rfl)
theorem dX2_beastLine_36 : decode cX2_beastLine 36 = .ok (.aload_n 1, 1) := dk_43 (dk_at dksX2_beastLine_1 14 rfl rfl)
theorem dX2_beastLine_37 : decode cX2_beastLine 37 = .ok (.aload_n 0, 1) := dk_42 (dk_at dksX2_beastLine_1 15 rfl rfl)
theorem dX2_beastLine_38 : decode cX2_beastLine 38 = .ok (.ldc 238, 2) := dk_18 238 (dk_at dksX2_beastLine_1 16 rfl rfl)
theorem dX2_beastLine_40 : decode cX2_beastLine 40 = .ok (.iconst 0, 1) := dk_3 (dk_at dksX2_beastLine_1 18 rfl rfl)
theorem dX2_beastLine_41 : decode cX2_beastLine 41 = .ok (.aload_n 0, 1) := dk_42 (dk_at dksX2_beastLine_1 19 rfl rfl)
theorem dX2_beastLine_42 : decode cX2_beastLine 42 = .ok (.getfield 105, 3) := dk_180 0 105 (dk_at dksX2_beastLine_1 20 rfl rfl)
theorem dX2_beastLine_45 : decode cX2_beastLine 45 = .ok (.getfield 132, 3) := dk_180 0 132 (dk_at dksX2_beastLine_2 0 rfl rfl)
theorem dX2_beastLine_48 : decode cX2_beastLine 48 = .ok (.iconst 1, 1) := dk_4 (dk_at dksX2_beastLine_2 3 rfl rfl)
theorem dX2_beastLine_49 : decode cX2_beastLine 49 = .ok (.isub, 1) := dk_100 (dk_at dksX2_beastLine_2 4 rfl rfl)
theorem dX2_beastLine_50 : decode cX2_beastLine 50 = .ok (.invokevirtual 168, 3) := dk_182 0 168 (dk_at dksX2_beastLine_2 5 rfl rfl)
theorem dX2_beastLine_53 : decode cX2_beastLine 53 = .ok (.putfield 239, 3) := dk_181 0 239 (dk_at dksX2_beastLine_2 8 rfl rfl)
theorem dX2_beastLine_56 : decode cX2_beastLine 56 = .ok (.aload_n 1, 1) := dk_43 (dk_at dksX2_beastLine_2 11 rfl rfl)
theorem dX2_beastLine_57 : decode cX2_beastLine 57 = .ok (.aload_n 0, 1) := dk_42 (dk_at dksX2_beastLine_2 12 rfl rfl)
theorem dX2_beastLine_58 : decode cX2_beastLine 58 = .ok (.ldc 243, 2) := dk_18 243 (dk_at dksX2_beastLine_2 13 rfl rfl)
theorem dX2_beastLine_60 : decode cX2_beastLine 60 = .ok (.iconst 0, 1) := dk_3 (dk_at dksX2_beastLine_2 15 rfl rfl)
theorem dX2_beastLine_61 : decode cX2_beastLine 61 = .ok (.bipush 100, 2) := dk_16 100 (dk_at dksX2_beastLine_2 16 rfl rfl)
theorem dX2_beastLine_63 : decode cX2_beastLine 63 = .ok (.invokevirtual 168, 3) := dk_182 0 168 (dk_at dksX2_beastLine_2 18 rfl rfl)
theorem dX2_beastLine_66 : decode cX2_beastLine 66 = .ok (.putfield 245, 3) := dk_181 0 245 (dk_at dksX2_beastLine_2 21 rfl rfl)
theorem dX2_beastLine_69 : decode cX2_beastLine 69 = .ok (.aload_n 1, 1) := dk_43 (dk_at dksX2_beastLine_3 0 rfl rfl)
theorem dX2_beastLine_70 : decode cX2_beastLine 70 = .ok (.aload_n 0, 1) := dk_42 (dk_at dksX2_beastLine_3 1 rfl rfl)
theorem dX2_beastLine_71 : decode cX2_beastLine 71 = .ok (.ldc 247, 2) := dk_18 247 (dk_at dksX2_beastLine_3 2 rfl rfl)
theorem dX2_beastLine_73 : decode cX2_beastLine 73 = .ok (.iconst 1, 1) := dk_4 (dk_at dksX2_beastLine_3 4 rfl rfl)
theorem dX2_beastLine_74 : decode cX2_beastLine 74 = .ok (.bipush 99, 2) := dk_16 99 (dk_at dksX2_beastLine_3 5 rfl rfl)
theorem dX2_beastLine_76 : decode cX2_beastLine 76 = .ok (.invokevirtual 168, 3) := dk_182 0 168 (dk_at dksX2_beastLine_3 7 rfl rfl)
theorem dX2_beastLine_79 : decode cX2_beastLine 79 = .ok (.putfield 249, 3) := dk_181 0 249 (dk_at dksX2_beastLine_3 10 rfl rfl)
theorem dX2_beastLine_82 : decode cX2_beastLine 82 = .ok (.aload_n 0, 1) := dk_42 (dk_at dksX2_beastLine_3 13 rfl rfl)
theorem dX2_beastLine_83 : decode cX2_beastLine 83 = .ok (.getfield 105, 3) := dk_180 0 105 (dk_at dksX2_beastLine_3 14 rfl rfl)
theorem dX2_beastLine_86 : decode cX2_beastLine 86 = .ok (.getfield 251, 3) := dk_180 0 251 (dk_at dksX2_beastLine_3 17 rfl rfl)
theorem dX2_beastLine_89 : decode cX2_beastLine 89 = .ok (.aload_n 0, 1) := dk_42 (dk_at dksX2_beastLine_3 20 rfl rfl)
theorem dX2_beastLine_90 : decode cX2_beastLine 90 = .ok (.getfield 105, 3) := dk_180 0 105 (dk_at dksX2_beastLine_3 21 rfl rfl)
theorem dX2_beastLine_93 : decode cX2_beastLine 93 = .ok (.getfield 139, 3) := dk_180 0 139 (dk_at dksX2_beastLine_4 0 rfl rfl)
theorem dX2_beastLine_96 : decode cX2_beastLine 96 = .ok (.aload_n 1, 1) := dk_43 (dk_at dksX2_beastLine_4 3 rfl rfl)
theorem dX2_beastLine_97 : decode cX2_beastLine 97 = .ok (.aastore, 1) := dk_83 (dk_at dksX2_beastLine_4 4 rfl rfl)
theorem dX2_beastLine_98 : decode cX2_beastLine 98 = .ok (.aload_n 0, 1) := dk_42 (dk_at dksX2_beastLine_4 5 rfl rfl)
theorem dX2_beastLine_99 : decode cX2_beastLine 99 = .ok (.getfield 105, 3) := dk_180 0 105 (dk_at dksX2_beastLine_4 6 rfl rfl)
theorem dX2_beastLine_102 : decode cX2_beastLine 102 = .ok (.dup, 1) := dk_89 (dk_at dksX2_beastLine_4 9 rfl rfl)
theorem dX2_beastLine_103 : decode cX2_beastLine 103 = .ok (.getfield 139, 3) := dk_180 0 139 (dk_at dksX2_beastLine_4 10 rfl rfl)
theorem dX2_beastLine_106 : decode cX2_beastLine 106 = .ok (.iconst 1, 1) := dk_4 (dk_at dksX2_beastLine_4 13 rfl rfl)
theorem dX2_beastLine_107 : decode cX2_beastLine 107 = .ok (.iadd, 1) := dk_96 (dk_at dksX2_beastLine_4 14 rfl rfl)
theorem dX2_beastLine_108 : decode cX2_beastLine 108 = .ok (.putfield 139, 3) := dk_181 0 139 (dk_at dksX2_beastLine_4 15 rfl rfl)
theorem dX2_beastLine_111 : decode cX2_beastLine 111 = .ok (.return_, 1) := dk_177 (dk_at dksX2_beastLine_4 18 rfl rfl)
abbrev cX2_newName : ByteArray := prog_15_method_10_code
def yX2_newName : MethodName := ⟨RX2, "newName", "()Ljava/lang/String;"⟩
def dkwX2_newName_1 : List UInt8 := [42, 180, 0, 61, 76, 42, 182, 0, 75, 43, 176]
abbrev dktX2_newName_1 : List UInt8 := dkwX2_newName_1 ++ []
def dkwX2_newName_0 : List UInt8 := [42, 182, 0, 102, 42, 180, 0, 105, 42, 180, 0, 61, 182, 0, 109, 198, 0, 9, 42, 6, 182, 0, 82, 191]
abbrev dktX2_newName_0 : List UInt8 := dkwX2_newName_0 ++ dktX2_newName_1
theorem dksX2_newName_0 : cX2_newName.data.toList.drop 0 = dktX2_newName_0 := by decide +kernel
theorem dksX2_newName_1 : cX2_newName.data.toList.drop 24 = dktX2_newName_1 := dk_seg dksX2_newName_0 24 rfl rfl
theorem dX2_newName_0 : decode cX2_newName 0 = .ok (.aload_n 0, 1) := dk_42 (dk_at dksX2_newName_0 0 rfl rfl)
theorem dX2_newName_1 : decode cX2_newName 1 = .ok (.invokevirtual 102, 3) := dk_182 0 102 (dk_at dksX2_newName_0 1 rfl rfl)
theorem dX2_newName_4 : decode cX2_newName 4 = .ok (.aload_n 0, 1) := dk_42 (dk_at dksX2_newName_0 4 rfl rfl)
theorem dX2_newName_5 : decode cX2_newName 5 = .ok (.getfield 105, 3) := dk_180 0 105 (dk_at dksX2_newName_0 5 rfl rfl)
theorem dX2_newName_8 : decode cX2_newName 8 = .ok (.aload_n 0, 1) := dk_42 (dk_at dksX2_newName_0 8 rfl rfl)
theorem dX2_newName_9 : decode cX2_newName 9 = .ok (.getfield 61, 3) := dk_180 0 61 (dk_at dksX2_newName_0 9 rfl rfl)
theorem dX2_newName_12 : decode cX2_newName 12 = .ok (.invokevirtual 109, 3) := dk_182 0 109 (dk_at dksX2_newName_0 12 rfl rfl)
theorem dX2_newName_15 : decode cX2_newName 15 = .ok (.ifnull 9, 3) := dk_198 0 9 (dk_at dksX2_newName_0 15 rfl rfl)
theorem dX2_newName_18 : decode cX2_newName 18 = .ok (.aload_n 0, 1) := dk_42 (dk_at dksX2_newName_0 18 rfl rfl)
theorem dX2_newName_19 : decode cX2_newName 19 = .ok (.iconst 3, 1) := dk_6 (dk_at dksX2_newName_0 19 rfl rfl)
theorem dX2_newName_20 : decode cX2_newName 20 = .ok (.invokevirtual 82, 3) := dk_182 0 82 (dk_at dksX2_newName_0 20 rfl rfl)
theorem dX2_newName_23 : decode cX2_newName 23 = .ok (.athrow, 1) := dk_191 (dk_at dksX2_newName_0 23 rfl rfl)
theorem dX2_newName_24 : decode cX2_newName 24 = .ok (.aload_n 0, 1) := dk_42 (dk_at dksX2_newName_1 0 rfl rfl)
theorem dX2_newName_25 : decode cX2_newName 25 = .ok (.getfield 61, 3) := dk_180 0 61 (dk_at dksX2_newName_1 1 rfl rfl)
theorem dX2_newName_28 : decode cX2_newName 28 = .ok (.astore_n 1, 1) := dk_76 (dk_at dksX2_newName_1 4 rfl rfl)
theorem dX2_newName_29 : decode cX2_newName 29 = .ok (.aload_n 0, 1) := dk_42 (dk_at dksX2_newName_1 5 rfl rfl)
theorem dX2_newName_30 : decode cX2_newName 30 = .ok (.invokevirtual 75, 3) := dk_182 0 75 (dk_at dksX2_newName_1 6 rfl rfl)
theorem dX2_newName_33 : decode cX2_newName 33 = .ok (.aload_n 1, 1) := dk_43 (dk_at dksX2_newName_1 9 rfl rfl)
theorem dX2_newName_34 : decode cX2_newName 34 = .ok (.areturn, 1) := dk_176 (dk_at dksX2_newName_1 10 rfl rfl)
abbrev cX2_mustName : ByteArray := prog_15_method_9_code
def yX2_mustName : MethodName := ⟨RX2, "mustName", "()V"⟩
def dkwX2_mustName_8 : List UInt8 := [42, 4, 182, 0, 82, 191, 177]
abbrev dktX2_mustName_8 : List UInt8 := dkwX2_mustName_8 ++ []
def dkwX2_mustName_7 : List UInt8 := [170, 0, 0, 0, 0, 44, 0, 0, 0, 0, 0, 0, 0, 5, 0, 0, 0, 38, 0, 0, 0, 38, 0, 0, 0, 38, 0, 0, 0, 38, 0, 0, 0, 38, 0, 0, 0, 38]
abbrev dktX2_mustName_7 : List UInt8 := dkwX2_mustName_7 ++ dktX2_mustName_8
def dkwX2_mustName_6 : List UInt8 := [18, 100, 182, 0, 71, 153, 0, 5, 8, 61, 28]
abbrev dktX2_mustName_6 : List UInt8 := dkwX2_mustName_6 ++ dktX2_mustName_7
def dkwX2_mustName_5 : List UInt8 := [153, 0, 33, 6, 61, 167, 0, 28, 43, 18, 98, 182, 0, 71, 153, 0, 19, 7, 61, 167, 0, 14, 43]
abbrev dktX2_mustName_5 : List UInt8 := dkwX2_mustName_5 ++ dktX2_mustName_6
def dkwX2_mustName_4 : List UInt8 := [61, 167, 0, 56, 43, 18, 94, 182, 0, 71, 153, 0, 47, 5, 61, 167, 0, 42, 43, 18, 96, 182, 0, 71]
abbrev dktX2_mustName_4 : List UInt8 := dkwX2_mustName_4 ++ dktX2_mustName_5
def dkwX2_mustName_3 : List UInt8 := [43, 18, 90, 182, 0, 71, 153, 0, 75, 3, 61, 167, 0, 70, 43, 18, 92, 182, 0, 71, 153, 0, 61, 4]
abbrev dktX2_mustName_3 : List UInt8 := dkwX2_mustName_3 ++ dktX2_mustName_4
def dkwX2_mustName_2 : List UInt8 := [171, 0, 0, 0, 0, 0, 140, 0, 0, 0, 6, 204, 152, 97, 220, 0, 0, 0, 129, 0, 46, 153, 107, 0, 0, 0, 101, 0, 50, 145, 236, 0, 0, 0, 73, 0, 52, 100, 17, 0, 0, 0, 115, 5, 148, 99, 95, 0, 0, 0, 87, 5, 206, 160, 250, 0, 0, 0, 59]
abbrev dktX2_mustName_2 : List UInt8 := dkwX2_mustName_2 ++ dktX2_mustName_3
def dkwX2_mustName_1 : List UInt8 := [182, 0, 86]
abbrev dktX2_mustName_1 : List UInt8 := dkwX2_mustName_1 ++ dktX2_mustName_2
def dkwX2_mustName_0 : List UInt8 := [42, 180, 0, 47, 5, 159, 0, 9, 42, 4, 182, 0, 82, 191, 42, 180, 0, 61, 76, 2, 61, 43]
abbrev dktX2_mustName_0 : List UInt8 := dkwX2_mustName_0 ++ dktX2_mustName_1
theorem dksX2_mustName_0 : cX2_mustName.data.toList.drop 0 = dktX2_mustName_0 := by decide +kernel
theorem dksX2_mustName_1 : cX2_mustName.data.toList.drop 22 = dktX2_mustName_1 := dk_seg dksX2_mustName_0 22 rfl rfl
theorem dksX2_mustName_2 : cX2_mustName.data.toList.drop 25 = dktX2_mustName_2 := dk_seg dksX2_mustName_1 3 rfl rfl
theorem dksX2_mustName_3 : cX2_mustName.data.toList.drop 84 = dktX2_mustName_3 := dk_seg dksX2_mustName_2 59 rfl rfl
theorem dksX2_mustName_4 : cX2_mustName.data.toList.drop 108 = dktX2_mustName_4 := dk_seg dksX2_mustName_3 24 rfl rfl
theorem dksX2_mustName_5 : cX2_mustName.data.toList.drop 132 = dktX2_mustName_5 := dk_seg dksX2_mustName_4 24 rfl rfl
theorem dksX2_mustName_6 : cX2_mustName.data.toList.drop 155 = dktX2_mustName_6 := dk_seg dksX2_mustName_5 23 rfl rfl
theorem dksX2_mustName_7 : cX2_mustName.data.toList.drop 166 = dktX2_mustName_7 := dk_seg dksX2_mustName_6 11 rfl rfl
theorem dksX2_mustName_8 : cX2_mustName.data.toList.drop 204 = dktX2_mustName_8 := dk_seg dksX2_mustName_7 38 rfl rfl
theorem dX2_mustName_0 : decode cX2_mustName 0 = .ok (.aload_n 0, 1) := dk_42 (dk_at dksX2_mustName_0 0 rfl rfl)
theorem dX2_mustName_1 : decode cX2_mustName 1 = .ok (.getfield 47, 3) := dk_180 0 47 (dk_at dksX2_mustName_0 1 rfl rfl)
theorem dX2_mustName_4 : decode cX2_mustName 4 = .ok (.iconst 2, 1) := dk_5 (dk_at dksX2_mustName_0 4 rfl rfl)
theorem dX2_mustName_5 : decode cX2_mustName 5 = .ok (.if_icmp .eq 9, 3) := dk_159 0 9 (dk_at dksX2_mustName_0 5 rfl rfl)
theorem dX2_mustName_8 : decode cX2_mustName 8 = .ok (.aload_n 0, 1) := dk_42 (dk_at dksX2_mustName_0 8 rfl rfl)
theorem dX2_mustName_9 : decode cX2_mustName 9 = .ok (.iconst 1, 1) := dk_4 (dk_at dksX2_mustName_0 9 rfl rfl)
theorem dX2_mustName_10 : decode cX2_mustName 10 = .ok (.invokevirtual 82, 3) := dk_182 0 82 (dk_at dksX2_mustName_0 10 rfl rfl)
theorem dX2_mustName_13 : decode cX2_mustName 13 = .ok (.athrow, 1) := dk_191 (dk_at dksX2_mustName_0 13 rfl rfl)
theorem dX2_mustName_14 : decode cX2_mustName 14 = .ok (.aload_n 0, 1) := dk_42 (dk_at dksX2_mustName_0 14 rfl rfl)
theorem dX2_mustName_15 : decode cX2_mustName 15 = .ok (.getfield 61, 3) := dk_180 0 61 (dk_at dksX2_mustName_0 15 rfl rfl)
theorem dX2_mustName_18 : decode cX2_mustName 18 = .ok (.astore_n 1, 1) := dk_76 (dk_at dksX2_mustName_0 18 rfl rfl)
theorem dX2_mustName_19 : decode cX2_mustName 19 = .ok (.iconst (-1), 1) := dk_2 (dk_at dksX2_mustName_0 19 rfl rfl)
theorem dX2_mustName_20 : decode cX2_mustName 20 = .ok (.istore_n 2, 1) := dk_61 (dk_at dksX2_mustName_0 20 rfl rfl)
theorem dX2_mustName_21 : decode cX2_mustName 21 = .ok (.aload_n 1, 1) := dk_43 (dk_at dksX2_mustName_0 21 rfl rfl)
theorem dX2_mustName_22 : decode cX2_mustName 22 = .ok (.invokevirtual 86, 3) := dk_182 0 86 (dk_at dksX2_mustName_1 0 rfl rfl)
theorem dX2_mustName_25 : decode cX2_mustName 25 = .ok (.lookupswitch 140 #[(-862428708, 129), (3053931, 101), (3314156, 73), (3433489, 115), (93610847, 87), (97427706, 59)], 59) := by decide +kernel
theorem dX2_mustName_84 : decode cX2_mustName 84 = .ok (.aload_n 1, 1) := dk_43 (dk_at dksX2_mustName_3 0 rfl rfl)
theorem dX2_mustName_85 : decode cX2_mustName 85 = .ok (.ldc 90, 2) := dk_18 90 (dk_at dksX2_mustName_3 1 rfl rfl)
theorem dX2_mustName_87 : decode cX2_mustName 87 = .ok (.invokevirtual 71, 3) := dk_182 0 71 (dk_at dksX2_mustName_3 3 rfl rfl)
theorem dX2_mustName_90 : decode cX2_mustName 90 = .ok (.ifCond .eq 75, 3) := dk_153 0 75 (dk_at dksX2_mustName_3 6 rfl rfl)
theorem dX2_mustName_93 : decode cX2_mustName 93 = .ok (.iconst 0, 1) := dk_3 (dk_at dksX2_mustName_3 9 rfl rfl)
theorem dX2_mustName_94 : decode cX2_mustName 94 = .ok (.istore_n 2, 1) := dk_61 (dk_at dksX2_mustName_3 10 rfl rfl)
theorem dX2_mustName_95 : decode cX2_mustName 95 = .ok (.goto 70, 3) := dk_167 0 70 (dk_at dksX2_mustName_3 11 rfl rfl)
theorem dX2_mustName_98 : decode cX2_mustName 98 = .ok (.aload_n 1, 1) := dk_43 (dk_at dksX2_mustName_3 14 rfl rfl)
theorem dX2_mustName_99 : decode cX2_mustName 99 = .ok (.ldc 92, 2) := dk_18 92 (dk_at dksX2_mustName_3 15 rfl rfl)
theorem dX2_mustName_101 : decode cX2_mustName 101 = .ok (.invokevirtual 71, 3) := dk_182 0 71 (dk_at dksX2_mustName_3 17 rfl rfl)
theorem dX2_mustName_104 : decode cX2_mustName 104 = .ok (.ifCond .eq 61, 3) := dk_153 0 61 (dk_at dksX2_mustName_3 20 rfl rfl)
theorem dX2_mustName_107 : decode cX2_mustName 107 = .ok (.iconst 1, 1) := dk_4 (dk_at dksX2_mustName_3 23 rfl rfl)
theorem dX2_mustName_108 : decode cX2_mustName 108 = .ok (.istore_n 2, 1) := dk_61 (dk_at dksX2_mustName_4 0 rfl rfl)
theorem dX2_mustName_109 : decode cX2_mustName 109 = .ok (.goto 56, 3) := dk_167 0 56 (dk_at dksX2_mustName_4 1 rfl rfl)
theorem dX2_mustName_112 : decode cX2_mustName 112 = .ok (.aload_n 1, 1) := dk_43 (dk_at dksX2_mustName_4 4 rfl rfl)
theorem dX2_mustName_113 : decode cX2_mustName 113 = .ok (.ldc 94, 2) := dk_18 94 (dk_at dksX2_mustName_4 5 rfl rfl)
theorem dX2_mustName_115 : decode cX2_mustName 115 = .ok (.invokevirtual 71, 3) := dk_182 0 71 (dk_at dksX2_mustName_4 7 rfl rfl)
theorem dX2_mustName_118 : decode cX2_mustName 118 = .ok (.ifCond .eq 47, 3) := dk_153 0 47 (dk_at dksX2_mustName_4 10 rfl rfl)
theorem dX2_mustName_121 : decode cX2_mustName 121 = .ok (.iconst 2, 1) := dk_5 (dk_at dksX2_mustName_4 13 rfl rfl)
theorem dX2_mustName_122 : decode cX2_mustName 122 = .ok (.istore_n 2, 1) := dk_61 (dk_at dksX2_mustName_4 14 rfl rfl)
theorem dX2_mustName_123 : decode cX2_mustName 123 = .ok (.goto 42, 3) := dk_167 0 42 (dk_at dksX2_mustName_4 15 rfl rfl)
theorem dX2_mustName_126 : decode cX2_mustName 126 = .ok (.aload_n 1, 1) := dk_43 (dk_at dksX2_mustName_4 18 rfl rfl)
theorem dX2_mustName_127 : decode cX2_mustName 127 = .ok (.ldc 96, 2) := dk_18 96 (dk_at dksX2_mustName_4 19 rfl rfl)
theorem dX2_mustName_129 : decode cX2_mustName 129 = .ok (.invokevirtual 71, 3) := dk_182 0 71 (dk_at dksX2_mustName_4 21 rfl rfl)
theorem dX2_mustName_132 : decode cX2_mustName 132 = .ok (.ifCond .eq 33, 3) := dk_153 0 33 (dk_at dksX2_mustName_5 0 rfl rfl)
theorem dX2_mustName_135 : decode cX2_mustName 135 = .ok (.iconst 3, 1) := dk_6 (dk_at dksX2_mustName_5 3 rfl rfl)
theorem dX2_mustName_136 : decode cX2_mustName 136 = .ok (.istore_n 2, 1) := dk_61 (dk_at dksX2_mustName_5 4 rfl rfl)
theorem dX2_mustName_137 : decode cX2_mustName 137 = .ok (.goto 28, 3) := dk_167 0 28 (dk_at dksX2_mustName_5 5 rfl rfl)
theorem dX2_mustName_140 : decode cX2_mustName 140 = .ok (.aload_n 1, 1) := dk_43 (dk_at dksX2_mustName_5 8 rfl rfl)
theorem dX2_mustName_141 : decode cX2_mustName 141 = .ok (.ldc 98, 2) := dk_18 98 (dk_at dksX2_mustName_5 9 rfl rfl)
theorem dX2_mustName_143 : decode cX2_mustName 143 = .ok (.invokevirtual 71, 3) := dk_182 0 71 (dk_at dksX2_mustName_5 11 rfl rfl)
theorem dX2_mustName_146 : decode cX2_mustName 146 = .ok (.ifCond .eq 19, 3) := dk_153 0 19 (dk_at dksX2_mustName_5 14 rfl rfl)
theorem dX2_mustName_149 : decode cX2_mustName 149 = .ok (.iconst 4, 1) := dk_7 (dk_at dksX2_mustName_5 17 rfl rfl)
theorem dX2_mustName_150 : decode cX2_mustName 150 = .ok (.istore_n 2, 1) := dk_61 (dk_at dksX2_mustName_5 18 rfl rfl)
theorem dX2_mustName_151 : decode cX2_mustName 151 = .ok (.goto 14, 3) := dk_167 0 14 (dk_at dksX2_mustName_5 19 rfl rfl)
theorem dX2_mustName_154 : decode cX2_mustName 154 = .ok (.aload_n 1, 1) := dk_43 (dk_at dksX2_mustName_5 22 rfl rfl)
theorem dX2_mustName_155 : decode cX2_mustName 155 = .ok (.ldc 100, 2) := dk_18 100 (dk_at dksX2_mustName_6 0 rfl rfl)
theorem dX2_mustName_157 : decode cX2_mustName 157 = .ok (.invokevirtual 71, 3) := dk_182 0 71 (dk_at dksX2_mustName_6 2 rfl rfl)
theorem dX2_mustName_160 : decode cX2_mustName 160 = .ok (.ifCond .eq 5, 3) := dk_153 0 5 (dk_at dksX2_mustName_6 5 rfl rfl)
theorem dX2_mustName_163 : decode cX2_mustName 163 = .ok (.iconst 5, 1) := dk_8 (dk_at dksX2_mustName_6 8 rfl rfl)
theorem dX2_mustName_164 : decode cX2_mustName 164 = .ok (.istore_n 2, 1) := dk_61 (dk_at dksX2_mustName_6 9 rfl rfl)
theorem dX2_mustName_165 : decode cX2_mustName 165 = .ok (.iload_n 2, 1) := dk_28 (dk_at dksX2_mustName_6 10 rfl rfl)
theorem dX2_mustName_166 : decode cX2_mustName 166 = .ok (.tableswitch 44 0 5 #[38, 38, 38, 38, 38, 38], 38) := by decide +kernel
theorem dX2_mustName_204 : decode cX2_mustName 204 = .ok (.aload_n 0, 1) := dk_42 (dk_at dksX2_mustName_8 0 rfl rfl)
theorem dX2_mustName_205 : decode cX2_mustName 205 = .ok (.iconst 1, 1) := dk_4 (dk_at dksX2_mustName_8 1 rfl rfl)
theorem dX2_mustName_206 : decode cX2_mustName 206 = .ok (.invokevirtual 82, 3) := dk_182 0 82 (dk_at dksX2_mustName_8 2 rfl rfl)
theorem dX2_mustName_209 : decode cX2_mustName 209 = .ok (.athrow, 1) := dk_191 (dk_at dksX2_mustName_8 5 rfl rfl)
theorem dX2_mustName_210 : decode cX2_mustName 210 = .ok (.return_, 1) := dk_177 (dk_at dksX2_mustName_8 6 rfl rfl)
abbrev cX2_beastOf : ByteArray := prog_15_method_21_code
def yX2_beastOf : MethodName := ⟨RX2, "beastOf", "(Ljava/lang/String;I)LElephantLine$Beast;"⟩
def dkwX2_beastOf_3 : List UInt8 := [28, 183, 0, 229, 176]
abbrev dktX2_beastOf_3 : List UInt8 := dkwX2_beastOf_3 ++ []
def dkwX2_beastOf_2 : List UInt8 := [153, 0, 13, 187, 0, 222, 89, 43, 28, 183, 0, 224, 176, 42, 18, 225, 182, 0, 126, 187, 0, 227, 89, 43]
abbrev dktX2_beastOf_2 : List UInt8 := dkwX2_beastOf_2 ++ dktX2_beastOf_3
def dkwX2_beastOf_1 : List UInt8 := [182, 0, 78, 153, 0, 13, 187, 0, 217, 89, 43, 28, 183, 0, 219, 176, 42, 18, 220, 182, 0, 78]
abbrev dktX2_beastOf_1 : List UInt8 := dkwX2_beastOf_1 ++ dktX2_beastOf_2
def dkwX2_beastOf_0 : List UInt8 := [42, 18, 208, 182, 0, 78, 153, 0, 13, 187, 0, 210, 89, 43, 28, 183, 0, 212, 176, 42, 18, 215]
abbrev dktX2_beastOf_0 : List UInt8 := dkwX2_beastOf_0 ++ dktX2_beastOf_1
theorem dksX2_beastOf_0 : cX2_beastOf.data.toList.drop 0 = dktX2_beastOf_0 := by decide +kernel
theorem dksX2_beastOf_1 : cX2_beastOf.data.toList.drop 22 = dktX2_beastOf_1 := dk_seg dksX2_beastOf_0 22 rfl rfl
theorem dksX2_beastOf_2 : cX2_beastOf.data.toList.drop 44 = dktX2_beastOf_2 := dk_seg dksX2_beastOf_1 22 rfl rfl
theorem dksX2_beastOf_3 : cX2_beastOf.data.toList.drop 68 = dktX2_beastOf_3 := dk_seg dksX2_beastOf_2 24 rfl rfl
theorem dX2_beastOf_0 : decode cX2_beastOf 0 = .ok (.aload_n 0, 1) := dk_42 (dk_at dksX2_beastOf_0 0 rfl rfl)
theorem dX2_beastOf_1 : decode cX2_beastOf 1 = .ok (.ldc 208, 2) := dk_18 208 (dk_at dksX2_beastOf_0 1 rfl rfl)
theorem dX2_beastOf_3 : decode cX2_beastOf 3 = .ok (.invokevirtual 78, 3) := dk_182 0 78 (dk_at dksX2_beastOf_0 3 rfl rfl)
theorem dX2_beastOf_6 : decode cX2_beastOf 6 = .ok (.ifCond .eq 13, 3) := dk_153 0 13 (dk_at dksX2_beastOf_0 6 rfl rfl)
theorem dX2_beastOf_9 : decode cX2_beastOf 9 = .ok (.new 210, 3) := dk_187 0 210 (dk_at dksX2_beastOf_0 9 rfl rfl)
theorem dX2_beastOf_12 : decode cX2_beastOf 12 = .ok (.dup, 1) := dk_89 (dk_at dksX2_beastOf_0 12 rfl rfl)
theorem dX2_beastOf_13 : decode cX2_beastOf 13 = .ok (.aload_n 1, 1) := dk_43 (dk_at dksX2_beastOf_0 13 rfl rfl)
theorem dX2_beastOf_14 : decode cX2_beastOf 14 = .ok (.iload_n 2, 1) := dk_28 (dk_at dksX2_beastOf_0 14 rfl rfl)
theorem dX2_beastOf_15 : decode cX2_beastOf 15 = .ok (.invokespecial 212, 3) := dk_183 0 212 (dk_at dksX2_beastOf_0 15 rfl rfl)
theorem dX2_beastOf_18 : decode cX2_beastOf 18 = .ok (.areturn, 1) := dk_176 (dk_at dksX2_beastOf_0 18 rfl rfl)
theorem dX2_beastOf_19 : decode cX2_beastOf 19 = .ok (.aload_n 0, 1) := dk_42 (dk_at dksX2_beastOf_0 19 rfl rfl)
theorem dX2_beastOf_20 : decode cX2_beastOf 20 = .ok (.ldc 215, 2) := dk_18 215 (dk_at dksX2_beastOf_0 20 rfl rfl)
theorem dX2_beastOf_22 : decode cX2_beastOf 22 = .ok (.invokevirtual 78, 3) := dk_182 0 78 (dk_at dksX2_beastOf_1 0 rfl rfl)
theorem dX2_beastOf_25 : decode cX2_beastOf 25 = .ok (.ifCond .eq 13, 3) := dk_153 0 13 (dk_at dksX2_beastOf_1 3 rfl rfl)
theorem dX2_beastOf_28 : decode cX2_beastOf 28 = .ok (.new 217, 3) := dk_187 0 217 (dk_at dksX2_beastOf_1 6 rfl rfl)
theorem dX2_beastOf_31 : decode cX2_beastOf 31 = .ok (.dup, 1) := dk_89 (dk_at dksX2_beastOf_1 9 rfl rfl)
theorem dX2_beastOf_32 : decode cX2_beastOf 32 = .ok (.aload_n 1, 1) := dk_43 (dk_at dksX2_beastOf_1 10 rfl rfl)
theorem dX2_beastOf_33 : decode cX2_beastOf 33 = .ok (.iload_n 2, 1) := dk_28 (dk_at dksX2_beastOf_1 11 rfl rfl)
theorem dX2_beastOf_34 : decode cX2_beastOf 34 = .ok (.invokespecial 219, 3) := dk_183 0 219 (dk_at dksX2_beastOf_1 12 rfl rfl)
theorem dX2_beastOf_37 : decode cX2_beastOf 37 = .ok (.areturn, 1) := dk_176 (dk_at dksX2_beastOf_1 15 rfl rfl)
theorem dX2_beastOf_38 : decode cX2_beastOf 38 = .ok (.aload_n 0, 1) := dk_42 (dk_at dksX2_beastOf_1 16 rfl rfl)
theorem dX2_beastOf_39 : decode cX2_beastOf 39 = .ok (.ldc 220, 2) := dk_18 220 (dk_at dksX2_beastOf_1 17 rfl rfl)
theorem dX2_beastOf_41 : decode cX2_beastOf 41 = .ok (.invokevirtual 78, 3) := dk_182 0 78 (dk_at dksX2_beastOf_1 19 rfl rfl)
theorem dX2_beastOf_44 : decode cX2_beastOf 44 = .ok (.ifCond .eq 13, 3) := dk_153 0 13 (dk_at dksX2_beastOf_2 0 rfl rfl)
theorem dX2_beastOf_47 : decode cX2_beastOf 47 = .ok (.new 222, 3) := dk_187 0 222 (dk_at dksX2_beastOf_2 3 rfl rfl)
theorem dX2_beastOf_50 : decode cX2_beastOf 50 = .ok (.dup, 1) := dk_89 (dk_at dksX2_beastOf_2 6 rfl rfl)
theorem dX2_beastOf_51 : decode cX2_beastOf 51 = .ok (.aload_n 1, 1) := dk_43 (dk_at dksX2_beastOf_2 7 rfl rfl)
theorem dX2_beastOf_52 : decode cX2_beastOf 52 = .ok (.iload_n 2, 1) := dk_28 (dk_at dksX2_beastOf_2 8 rfl rfl)
theorem dX2_beastOf_53 : decode cX2_beastOf 53 = .ok (.invokespecial 224, 3) := dk_183 0 224 (dk_at dksX2_beastOf_2 9 rfl rfl)
theorem dX2_beastOf_56 : decode cX2_beastOf 56 = .ok (.areturn, 1) := dk_176 (dk_at dksX2_beastOf_2 12 rfl rfl)
theorem dX2_beastOf_57 : decode cX2_beastOf 57 = .ok (.aload_n 0, 1) := dk_42 (dk_at dksX2_beastOf_2 13 rfl rfl)
theorem dX2_beastOf_58 : decode cX2_beastOf 58 = .ok (.ldc 225, 2) := dk_18 225 (dk_at dksX2_beastOf_2 14 rfl rfl)
theorem dX2_beastOf_60 : decode cX2_beastOf 60 = .ok (.invokevirtual 126, 3) := dk_182 0 126 (dk_at dksX2_beastOf_2 16 rfl rfl)
theorem dX2_beastOf_63 : decode cX2_beastOf 63 = .ok (.new 227, 3) := dk_187 0 227 (dk_at dksX2_beastOf_2 19 rfl rfl)
theorem dX2_beastOf_66 : decode cX2_beastOf 66 = .ok (.dup, 1) := dk_89 (dk_at dksX2_beastOf_2 22 rfl rfl)
theorem dX2_beastOf_67 : decode cX2_beastOf 67 = .ok (.aload_n 1, 1) := dk_43 (dk_at dksX2_beastOf_2 23 rfl rfl)
theorem dX2_beastOf_68 : decode cX2_beastOf 68 = .ok (.iload_n 2, 1) := dk_28 (dk_at dksX2_beastOf_3 0 rfl rfl)
theorem dX2_beastOf_69 : decode cX2_beastOf 69 = .ok (.invokespecial 229, 3) := dk_183 0 229 (dk_at dksX2_beastOf_3 1 rfl rfl)
theorem dX2_beastOf_72 : decode cX2_beastOf 72 = .ok (.areturn, 1) := dk_176 (dk_at dksX2_beastOf_3 4 rfl rfl)
abbrev cX2_cityLine : ByteArray := prog_15_method_23_code
def yX2_cityLine : MethodName := ⟨RX2, "cityLine", "()V"⟩
def dkwX2_cityLine_2 : List UInt8 := [180, 0, 105, 180, 0, 255, 183, 1, 6, 83, 42, 180, 0, 105, 89, 180, 0, 255, 4, 96, 181, 0, 255, 177]
abbrev dktX2_cityLine_2 : List UInt8 := dkwX2_cityLine_2 ++ []
def dkwX2_cityLine_1 : List UInt8 := [180, 0, 105, 180, 1, 2, 42, 180, 0, 105, 180, 0, 255, 187, 0, 115, 89, 42, 182, 0, 230, 42]
abbrev dktX2_cityLine_1 : List UInt8 := dkwX2_cityLine_1 ++ dktX2_cityLine_2
def dkwX2_cityLine_0 : List UInt8 := [42, 42, 180, 0, 105, 180, 0, 255, 16, 6, 162, 0, 7, 4, 167, 0, 4, 3, 182, 0, 197, 42]
abbrev dktX2_cityLine_0 : List UInt8 := dkwX2_cityLine_0 ++ dktX2_cityLine_1
theorem dksX2_cityLine_0 : cX2_cityLine.data.toList.drop 0 = dktX2_cityLine_0 := by decide +kernel
theorem dksX2_cityLine_1 : cX2_cityLine.data.toList.drop 22 = dktX2_cityLine_1 := dk_seg dksX2_cityLine_0 22 rfl rfl
theorem dksX2_cityLine_2 : cX2_cityLine.data.toList.drop 44 = dktX2_cityLine_2 := dk_seg dksX2_cityLine_1 22 rfl rfl
theorem dX2_cityLine_0 : decode cX2_cityLine 0 = .ok (.aload_n 0, 1) := dk_42 (dk_at dksX2_cityLine_0 0 rfl rfl)
theorem dX2_cityLine_1 : decode cX2_cityLine 1 = .ok (.aload_n 0, 1) := dk_42 (dk_at dksX2_cityLine_0 1 rfl rfl)
theorem dX2_cityLine_2 : decode cX2_cityLine 2 = .ok (.getfield 105, 3) := dk_180 0 105 (dk_at dksX2_cityLine_0 2 rfl rfl)
theorem dX2_cityLine_5 : decode cX2_cityLine 5 = .ok (.getfield 255, 3) := dk_180 0 255 (dk_at dksX2_cityLine_0 5 rfl rfl)
theorem dX2_cityLine_8 : decode cX2_cityLine 8 = .ok (.bipush 6, 2) := dk_16 6 (dk_at dksX2_cityLine_0 8 rfl rfl)
theorem dX2_cityLine_10 : decode cX2_cityLine 10 = .ok (.if_icmp .ge 7, 3) := dk_162 0 7 (dk_at dksX2_cityLine_0 10 rfl rfl)
theorem dX2_cityLine_13 : decode cX2_cityLine 13 = .ok (.iconst 1, 1) := dk_4 (dk_at dksX2_cityLine_0 13 rfl rfl)
theorem dX2_cityLine_14 : decode cX2_cityLine 14 = .ok (.goto 4, 3) := dk_167 0 4 (dk_at dksX2_cityLine_0 14 rfl rfl)
theorem dX2_cityLine_17 : decode cX2_cityLine 17 = .ok (.iconst 0, 1) := dk_3 (dk_at dksX2_cityLine_0 17 rfl rfl)
theorem dX2_cityLine_18 : decode cX2_cityLine 18 = .ok (.invokevirtual 197, 3) := dk_182 0 197 (dk_at dksX2_cityLine_0 18 rfl rfl)
theorem dX2_cityLine_21 : decode cX2_cityLine 21 = .ok (.aload_n 0, 1) := dk_42 (dk_at dksX2_cityLine_0 21 rfl rfl)
theorem dX2_cityLine_22 : decode cX2_cityLine 22 = .ok (.getfield 105, 3) := dk_180 0 105 (dk_at dksX2_cityLine_1 0 rfl rfl)
theorem dX2_cityLine_25 : decode cX2_cityLine 25 = .ok (.getfield 258, 3) := dk_180 1 2 (dk_at dksX2_cityLine_1 3 rfl rfl)
theorem dX2_cityLine_28 : decode cX2_cityLine 28 = .ok (.aload_n 0, 1) := dk_42 (dk_at dksX2_cityLine_1 6 rfl rfl)
theorem dX2_cityLine_29 : decode cX2_cityLine 29 = .ok (.getfield 105, 3) := dk_180 0 105 (dk_at dksX2_cityLine_1 7 rfl rfl)
theorem dX2_cityLine_32 : decode cX2_cityLine 32 = .ok (.getfield 255, 3) := dk_180 0 255 (dk_at dksX2_cityLine_1 10 rfl rfl)
theorem dX2_cityLine_35 : decode cX2_cityLine 35 = .ok (.new 115, 3) := dk_187 0 115 (dk_at dksX2_cityLine_1 13 rfl rfl)
theorem dX2_cityLine_38 : decode cX2_cityLine 38 = .ok (.dup, 1) := dk_89 (dk_at dksX2_cityLine_1 16 rfl rfl)
theorem dX2_cityLine_39 : decode cX2_cityLine 39 = .ok (.aload_n 0, 1) := dk_42 (dk_at dksX2_cityLine_1 17 rfl rfl)
theorem dX2_cityLine_40 : decode cX2_cityLine 40 = .ok (.invokevirtual 230, 3) := dk_182 0 230 (dk_at dksX2_cityLine_1 18 rfl rfl)
theorem dX2_cityLine_43 : decode cX2_cityLine 43 = .ok (.aload_n 0, 1) := dk_42 (dk_at dksX2_cityLine_1 21 rfl rfl)
theorem dX2_cityLine_44 : decode cX2_cityLine 44 = .ok (.getfield 105, 3) := dk_180 0 105 (dk_at dksX2_cityLine_2 0 rfl rfl)
theorem dX2_cityLine_47 : decode cX2_cityLine 47 = .ok (.getfield 255, 3) := dk_180 0 255 (dk_at dksX2_cityLine_2 3 rfl rfl)
theorem dX2_cityLine_50 : decode cX2_cityLine 50 = .ok (.invokespecial 262, 3) := dk_183 1 6 (dk_at dksX2_cityLine_2 6 rfl rfl)
theorem dX2_cityLine_53 : decode cX2_cityLine 53 = .ok (.aastore, 1) := dk_83 (dk_at dksX2_cityLine_2 9 rfl rfl)
theorem dX2_cityLine_54 : decode cX2_cityLine 54 = .ok (.aload_n 0, 1) := dk_42 (dk_at dksX2_cityLine_2 10 rfl rfl)
theorem dX2_cityLine_55 : decode cX2_cityLine 55 = .ok (.getfield 105, 3) := dk_180 0 105 (dk_at dksX2_cityLine_2 11 rfl rfl)
theorem dX2_cityLine_58 : decode cX2_cityLine 58 = .ok (.dup, 1) := dk_89 (dk_at dksX2_cityLine_2 14 rfl rfl)
theorem dX2_cityLine_59 : decode cX2_cityLine 59 = .ok (.getfield 255, 3) := dk_180 0 255 (dk_at dksX2_cityLine_2 15 rfl rfl)
theorem dX2_cityLine_62 : decode cX2_cityLine 62 = .ok (.iconst 1, 1) := dk_4 (dk_at dksX2_cityLine_2 18 rfl rfl)
theorem dX2_cityLine_63 : decode cX2_cityLine 63 = .ok (.iadd, 1) := dk_96 (dk_at dksX2_cityLine_2 19 rfl rfl)
theorem dX2_cityLine_64 : decode cX2_cityLine 64 = .ok (.putfield 255, 3) := dk_181 0 255 (dk_at dksX2_cityLine_2 20 rfl rfl)
theorem dX2_cityLine_67 : decode cX2_cityLine 67 = .ok (.return_, 1) := dk_177 (dk_at dksX2_cityLine_2 23 rfl rfl)
abbrev cX2_passLine : ByteArray := prog_15_method_24_code
def yX2_passLine : MethodName := ⟨RX2, "passLine", "()V"⟩
def dkwX2_passLine_5 : List UInt8 := [4, 96, 181, 1, 7, 177]
abbrev dktX2_passLine_5 : List UInt8 := dkwX2_passLine_5 ++ []
def dkwX2_passLine_4 : List UInt8 := [180, 0, 105, 180, 1, 17, 16, 6, 28, 104, 27, 96, 29, 4, 96, 79, 42, 180, 0, 105, 89, 180, 1, 7]
abbrev dktX2_passLine_4 : List UInt8 := dkwX2_passLine_4 ++ dktX2_passLine_5
def dkwX2_passLine_3 : List UInt8 := [182, 0, 168, 62, 42, 180, 0, 105, 180, 1, 17, 16, 6, 27, 104, 28, 96, 29, 4, 96, 79, 42]
abbrev dktX2_passLine_3 : List UInt8 := dkwX2_passLine_3 ++ dktX2_passLine_4
def dkwX2_passLine_2 : List UInt8 := [182, 1, 13, 158, 0, 9, 42, 6, 182, 0, 82, 191, 42, 182, 0, 75, 42, 19, 1, 15, 3, 16, 99]
abbrev dktX2_passLine_2 : List UInt8 := dkwX2_passLine_2 ++ dktX2_passLine_3
def dkwX2_passLine_1 : List UInt8 := [182, 1, 10, 60, 42, 182, 0, 75, 42, 182, 1, 10, 61, 27, 28, 159, 0, 15, 42, 180, 0, 105, 27, 28]
abbrev dktX2_passLine_1 : List UInt8 := dkwX2_passLine_1 ++ dktX2_passLine_2
def dkwX2_passLine_0 : List UInt8 := [42, 42, 180, 0, 105, 180, 1, 7, 16, 9, 162, 0, 7, 4, 167, 0, 4, 3, 182, 0, 197, 42]
abbrev dktX2_passLine_0 : List UInt8 := dkwX2_passLine_0 ++ dktX2_passLine_1
theorem dksX2_passLine_0 : cX2_passLine.data.toList.drop 0 = dktX2_passLine_0 := by decide +kernel
theorem dksX2_passLine_1 : cX2_passLine.data.toList.drop 22 = dktX2_passLine_1 := dk_seg dksX2_passLine_0 22 rfl rfl
theorem dksX2_passLine_2 : cX2_passLine.data.toList.drop 46 = dktX2_passLine_2 := dk_seg dksX2_passLine_1 24 rfl rfl
theorem dksX2_passLine_3 : cX2_passLine.data.toList.drop 69 = dktX2_passLine_3 := dk_seg dksX2_passLine_2 23 rfl rfl
theorem dksX2_passLine_4 : cX2_passLine.data.toList.drop 91 = dktX2_passLine_4 := dk_seg dksX2_passLine_3 22 rfl rfl
theorem dksX2_passLine_5 : cX2_passLine.data.toList.drop 115 = dktX2_passLine_5 := dk_seg dksX2_passLine_4 24 rfl rfl
theorem dX2_passLine_0 : decode cX2_passLine 0 = .ok (.aload_n 0, 1) := dk_42 (dk_at dksX2_passLine_0 0 rfl rfl)
theorem dX2_passLine_1 : decode cX2_passLine 1 = .ok (.aload_n 0, 1) := dk_42 (dk_at dksX2_passLine_0 1 rfl rfl)
theorem dX2_passLine_2 : decode cX2_passLine 2 = .ok (.getfield 105, 3) := dk_180 0 105 (dk_at dksX2_passLine_0 2 rfl rfl)
theorem dX2_passLine_5 : decode cX2_passLine 5 = .ok (.getfield 263, 3) := dk_180 1 7 (dk_at dksX2_passLine_0 5 rfl rfl)
theorem dX2_passLine_8 : decode cX2_passLine 8 = .ok (.bipush 9, 2) := dk_16 9 (dk_at dksX2_passLine_0 8 rfl rfl)
theorem dX2_passLine_10 : decode cX2_passLine 10 = .ok (.if_icmp .ge 7, 3) := dk_162 0 7 (dk_at dksX2_passLine_0 10 rfl rfl)
theorem dX2_passLine_13 : decode cX2_passLine 13 = .ok (.iconst 1, 1) := dk_4 (dk_at dksX2_passLine_0 13 rfl rfl)
theorem dX2_passLine_14 : decode cX2_passLine 14 = .ok (.goto 4, 3) := dk_167 0 4 (dk_at dksX2_passLine_0 14 rfl rfl)
theorem dX2_passLine_17 : decode cX2_passLine 17 = .ok (.iconst 0, 1) := dk_3 (dk_at dksX2_passLine_0 17 rfl rfl)
theorem dX2_passLine_18 : decode cX2_passLine 18 = .ok (.invokevirtual 197, 3) := dk_182 0 197 (dk_at dksX2_passLine_0 18 rfl rfl)
theorem dX2_passLine_21 : decode cX2_passLine 21 = .ok (.aload_n 0, 1) := dk_42 (dk_at dksX2_passLine_0 21 rfl rfl)
theorem dX2_passLine_22 : decode cX2_passLine 22 = .ok (.invokevirtual 266, 3) := dk_182 1 10 (dk_at dksX2_passLine_1 0 rfl rfl)
theorem dX2_passLine_25 : decode cX2_passLine 25 = .ok (.istore_n 1, 1) := dk_60 (dk_at dksX2_passLine_1 3 rfl rfl)
theorem dX2_passLine_26 : decode cX2_passLine 26 = .ok (.aload_n 0, 1) := dk_42 (dk_at dksX2_passLine_1 4 rfl rfl)
theorem dX2_passLine_27 : decode cX2_passLine 27 = .ok (.invokevirtual 75, 3) := dk_182 0 75 (dk_at dksX2_passLine_1 5 rfl rfl)
theorem dX2_passLine_30 : decode cX2_passLine 30 = .ok (.aload_n 0, 1) := dk_42 (dk_at dksX2_passLine_1 8 rfl rfl)
theorem dX2_passLine_31 : decode cX2_passLine 31 = .ok (.invokevirtual 266, 3) := dk_182 1 10 (dk_at dksX2_passLine_1 9 rfl rfl)
theorem dX2_passLine_34 : decode cX2_passLine 34 = .ok (.istore_n 2, 1) := dk_61 (dk_at dksX2_passLine_1 12 rfl rfl)
theorem dX2_passLine_35 : decode cX2_passLine 35 = .ok (.iload_n 1, 1) := dk_27 (dk_at dksX2_passLine_1 13 rfl rfl)
theorem dX2_passLine_36 : decode cX2_passLine 36 = .ok (.iload_n 2, 1) := dk_28 (dk_at dksX2_passLine_1 14 rfl rfl)
theorem dX2_passLine_37 : decode cX2_passLine 37 = .ok (.if_icmp .eq 15, 3) := dk_159 0 15 (dk_at dksX2_passLine_1 15 rfl rfl)
theorem dX2_passLine_40 : decode cX2_passLine 40 = .ok (.aload_n 0, 1) := dk_42 (dk_at dksX2_passLine_1 18 rfl rfl)
theorem dX2_passLine_41 : decode cX2_passLine 41 = .ok (.getfield 105, 3) := dk_180 0 105 (dk_at dksX2_passLine_1 19 rfl rfl)
theorem dX2_passLine_44 : decode cX2_passLine 44 = .ok (.iload_n 1, 1) := dk_27 (dk_at dksX2_passLine_1 22 rfl rfl)
theorem dX2_passLine_45 : decode cX2_passLine 45 = .ok (.iload_n 2, 1) := dk_28 (dk_at dksX2_passLine_1 23 rfl rfl)
theorem dX2_passLine_46 : decode cX2_passLine 46 = .ok (.invokevirtual 269, 3) := dk_182 1 13 (dk_at dksX2_passLine_2 0 rfl rfl)
theorem dX2_passLine_49 : decode cX2_passLine 49 = .ok (.ifCond .le 9, 3) := dk_158 0 9 (dk_at dksX2_passLine_2 3 rfl rfl)
theorem dX2_passLine_52 : decode cX2_passLine 52 = .ok (.aload_n 0, 1) := dk_42 (dk_at dksX2_passLine_2 6 rfl rfl)
theorem dX2_passLine_53 : decode cX2_passLine 53 = .ok (.iconst 3, 1) := dk_6 (dk_at dksX2_passLine_2 7 rfl rfl)
theorem dX2_passLine_54 : decode cX2_passLine 54 = .ok (.invokevirtual 82, 3) := dk_182 0 82 (dk_at dksX2_passLine_2 8 rfl rfl)
theorem dX2_passLine_57 : decode cX2_passLine 57 = .ok (.athrow, 1) := dk_191 (dk_at dksX2_passLine_2 11 rfl rfl)
theorem dX2_passLine_58 : decode cX2_passLine 58 = .ok (.aload_n 0, 1) := dk_42 (dk_at dksX2_passLine_2 12 rfl rfl)
theorem dX2_passLine_59 : decode cX2_passLine 59 = .ok (.invokevirtual 75, 3) := dk_182 0 75 (dk_at dksX2_passLine_2 13 rfl rfl)
theorem dX2_passLine_62 : decode cX2_passLine 62 = .ok (.aload_n 0, 1) := dk_42 (dk_at dksX2_passLine_2 16 rfl rfl)
theorem dX2_passLine_63 : decode cX2_passLine 63 = .ok (.ldc_w 271, 3) := dk_19 1 15 (dk_at dksX2_passLine_2 17 rfl rfl)
theorem dX2_passLine_66 : decode cX2_passLine 66 = .ok (.iconst 0, 1) := dk_3 (dk_at dksX2_passLine_2 20 rfl rfl)
theorem dX2_passLine_67 : decode cX2_passLine 67 = .ok (.bipush 99, 2) := dk_16 99 (dk_at dksX2_passLine_2 21 rfl rfl)
theorem dX2_passLine_69 : decode cX2_passLine 69 = .ok (.invokevirtual 168, 3) := dk_182 0 168 (dk_at dksX2_passLine_3 0 rfl rfl)
theorem dX2_passLine_72 : decode cX2_passLine 72 = .ok (.istore_n 3, 1) := dk_62 (dk_at dksX2_passLine_3 3 rfl rfl)
theorem dX2_passLine_73 : decode cX2_passLine 73 = .ok (.aload_n 0, 1) := dk_42 (dk_at dksX2_passLine_3 4 rfl rfl)
theorem dX2_passLine_74 : decode cX2_passLine 74 = .ok (.getfield 105, 3) := dk_180 0 105 (dk_at dksX2_passLine_3 5 rfl rfl)
theorem dX2_passLine_77 : decode cX2_passLine 77 = .ok (.getfield 273, 3) := dk_180 1 17 (dk_at dksX2_passLine_3 8 rfl rfl)
theorem dX2_passLine_80 : decode cX2_passLine 80 = .ok (.bipush 6, 2) := dk_16 6 (dk_at dksX2_passLine_3 11 rfl rfl)
theorem dX2_passLine_82 : decode cX2_passLine 82 = .ok (.iload_n 1, 1) := dk_27 (dk_at dksX2_passLine_3 13 rfl rfl)
theorem dX2_passLine_83 : decode cX2_passLine 83 = .ok (.imul, 1) := dk_104 (dk_at dksX2_passLine_3 14 rfl rfl)
theorem dX2_passLine_84 : decode cX2_passLine 84 = .ok (.iload_n 2, 1) := dk_28 (dk_at dksX2_passLine_3 15 rfl rfl)
theorem dX2_passLine_85 : decode cX2_passLine 85 = .ok (.iadd, 1) := dk_96 (dk_at dksX2_passLine_3 16 rfl rfl)
theorem dX2_passLine_86 : decode cX2_passLine 86 = .ok (.iload_n 3, 1) := dk_29 (dk_at dksX2_passLine_3 17 rfl rfl)
theorem dX2_passLine_87 : decode cX2_passLine 87 = .ok (.iconst 1, 1) := dk_4 (dk_at dksX2_passLine_3 18 rfl rfl)
theorem dX2_passLine_88 : decode cX2_passLine 88 = .ok (.iadd, 1) := dk_96 (dk_at dksX2_passLine_3 19 rfl rfl)
theorem dX2_passLine_89 : decode cX2_passLine 89 = .ok (.iastore, 1) := dk_79 (dk_at dksX2_passLine_3 20 rfl rfl)
theorem dX2_passLine_90 : decode cX2_passLine 90 = .ok (.aload_n 0, 1) := dk_42 (dk_at dksX2_passLine_3 21 rfl rfl)
theorem dX2_passLine_91 : decode cX2_passLine 91 = .ok (.getfield 105, 3) := dk_180 0 105 (dk_at dksX2_passLine_4 0 rfl rfl)
theorem dX2_passLine_94 : decode cX2_passLine 94 = .ok (.getfield 273, 3) := dk_180 1 17 (dk_at dksX2_passLine_4 3 rfl rfl)
theorem dX2_passLine_97 : decode cX2_passLine 97 = .ok (.bipush 6, 2) := dk_16 6 (dk_at dksX2_passLine_4 6 rfl rfl)
theorem dX2_passLine_99 : decode cX2_passLine 99 = .ok (.iload_n 2, 1) := dk_28 (dk_at dksX2_passLine_4 8 rfl rfl)
theorem dX2_passLine_100 : decode cX2_passLine 100 = .ok (.imul, 1) := dk_104 (dk_at dksX2_passLine_4 9 rfl rfl)
theorem dX2_passLine_101 : decode cX2_passLine 101 = .ok (.iload_n 1, 1) := dk_27 (dk_at dksX2_passLine_4 10 rfl rfl)
theorem dX2_passLine_102 : decode cX2_passLine 102 = .ok (.iadd, 1) := dk_96 (dk_at dksX2_passLine_4 11 rfl rfl)
theorem dX2_passLine_103 : decode cX2_passLine 103 = .ok (.iload_n 3, 1) := dk_29 (dk_at dksX2_passLine_4 12 rfl rfl)
theorem dX2_passLine_104 : decode cX2_passLine 104 = .ok (.iconst 1, 1) := dk_4 (dk_at dksX2_passLine_4 13 rfl rfl)
theorem dX2_passLine_105 : decode cX2_passLine 105 = .ok (.iadd, 1) := dk_96 (dk_at dksX2_passLine_4 14 rfl rfl)
theorem dX2_passLine_106 : decode cX2_passLine 106 = .ok (.iastore, 1) := dk_79 (dk_at dksX2_passLine_4 15 rfl rfl)
theorem dX2_passLine_107 : decode cX2_passLine 107 = .ok (.aload_n 0, 1) := dk_42 (dk_at dksX2_passLine_4 16 rfl rfl)
theorem dX2_passLine_108 : decode cX2_passLine 108 = .ok (.getfield 105, 3) := dk_180 0 105 (dk_at dksX2_passLine_4 17 rfl rfl)
theorem dX2_passLine_111 : decode cX2_passLine 111 = .ok (.dup, 1) := dk_89 (dk_at dksX2_passLine_4 20 rfl rfl)
theorem dX2_passLine_112 : decode cX2_passLine 112 = .ok (.getfield 263, 3) := dk_180 1 7 (dk_at dksX2_passLine_4 21 rfl rfl)
theorem dX2_passLine_115 : decode cX2_passLine 115 = .ok (.iconst 1, 1) := dk_4 (dk_at dksX2_passLine_5 0 rfl rfl)
theorem dX2_passLine_116 : decode cX2_passLine 116 = .ok (.iadd, 1) := dk_96 (dk_at dksX2_passLine_5 1 rfl rfl)
theorem dX2_passLine_117 : decode cX2_passLine 117 = .ok (.putfield 263, 3) := dk_181 1 7 (dk_at dksX2_passLine_5 2 rfl rfl)
theorem dX2_passLine_120 : decode cX2_passLine 120 = .ok (.return_, 1) := dk_177 (dk_at dksX2_passLine_5 5 rfl rfl)
abbrev cX2_cityHere : ByteArray := prog_15_method_11_code
def yX2_cityHere : MethodName := ⟨RX2, "cityHere", "()I"⟩
def dkwX2_cityHere_1 : List UInt8 := [5, 182, 0, 82, 191, 43, 180, 0, 117, 172]
abbrev dktX2_cityHere_1 : List UInt8 := dkwX2_cityHere_1 ++ []
def dkwX2_cityHere_0 : List UInt8 := [42, 182, 0, 102, 42, 180, 0, 105, 42, 180, 0, 61, 182, 0, 109, 76, 43, 193, 0, 115, 154, 0, 9, 42]
abbrev dktX2_cityHere_0 : List UInt8 := dkwX2_cityHere_0 ++ dktX2_cityHere_1
theorem dksX2_cityHere_0 : cX2_cityHere.data.toList.drop 0 = dktX2_cityHere_0 := by decide +kernel
theorem dksX2_cityHere_1 : cX2_cityHere.data.toList.drop 24 = dktX2_cityHere_1 := dk_seg dksX2_cityHere_0 24 rfl rfl
theorem dX2_cityHere_0 : decode cX2_cityHere 0 = .ok (.aload_n 0, 1) := dk_42 (dk_at dksX2_cityHere_0 0 rfl rfl)
theorem dX2_cityHere_1 : decode cX2_cityHere 1 = .ok (.invokevirtual 102, 3) := dk_182 0 102 (dk_at dksX2_cityHere_0 1 rfl rfl)
theorem dX2_cityHere_4 : decode cX2_cityHere 4 = .ok (.aload_n 0, 1) := dk_42 (dk_at dksX2_cityHere_0 4 rfl rfl)
theorem dX2_cityHere_5 : decode cX2_cityHere 5 = .ok (.getfield 105, 3) := dk_180 0 105 (dk_at dksX2_cityHere_0 5 rfl rfl)
theorem dX2_cityHere_8 : decode cX2_cityHere 8 = .ok (.aload_n 0, 1) := dk_42 (dk_at dksX2_cityHere_0 8 rfl rfl)
theorem dX2_cityHere_9 : decode cX2_cityHere 9 = .ok (.getfield 61, 3) := dk_180 0 61 (dk_at dksX2_cityHere_0 9 rfl rfl)
theorem dX2_cityHere_12 : decode cX2_cityHere 12 = .ok (.invokevirtual 109, 3) := dk_182 0 109 (dk_at dksX2_cityHere_0 12 rfl rfl)
theorem dX2_cityHere_15 : decode cX2_cityHere 15 = .ok (.astore_n 1, 1) := dk_76 (dk_at dksX2_cityHere_0 15 rfl rfl)
theorem dX2_cityHere_16 : decode cX2_cityHere 16 = .ok (.aload_n 1, 1) := dk_43 (dk_at dksX2_cityHere_0 16 rfl rfl)
theorem dX2_cityHere_17 : decode cX2_cityHere 17 = .ok (.instanceof 115, 3) := dk_193 0 115 (dk_at dksX2_cityHere_0 17 rfl rfl)
theorem dX2_cityHere_20 : decode cX2_cityHere 20 = .ok (.ifCond .ne 9, 3) := dk_154 0 9 (dk_at dksX2_cityHere_0 20 rfl rfl)
theorem dX2_cityHere_23 : decode cX2_cityHere 23 = .ok (.aload_n 0, 1) := dk_42 (dk_at dksX2_cityHere_0 23 rfl rfl)
theorem dX2_cityHere_24 : decode cX2_cityHere 24 = .ok (.iconst 2, 1) := dk_5 (dk_at dksX2_cityHere_1 0 rfl rfl)
theorem dX2_cityHere_25 : decode cX2_cityHere 25 = .ok (.invokevirtual 82, 3) := dk_182 0 82 (dk_at dksX2_cityHere_1 1 rfl rfl)
theorem dX2_cityHere_28 : decode cX2_cityHere 28 = .ok (.athrow, 1) := dk_191 (dk_at dksX2_cityHere_1 4 rfl rfl)
theorem dX2_cityHere_29 : decode cX2_cityHere 29 = .ok (.aload_n 1, 1) := dk_43 (dk_at dksX2_cityHere_1 5 rfl rfl)
theorem dX2_cityHere_30 : decode cX2_cityHere 30 = .ok (.getfield 117, 3) := dk_180 0 117 (dk_at dksX2_cityHere_1 6 rfl rfl)
theorem dX2_cityHere_33 : decode cX2_cityHere 33 = .ok (.ireturn, 1) := dk_172 (dk_at dksX2_cityHere_1 9 rfl rfl)
abbrev cX2_turnedLine : ByteArray := prog_15_method_25_code
def yX2_turnedLine : MethodName := ⟨RX2, "turnedLine", "()V"⟩
def dkwX2_turnedLine_3 : List UInt8 := [96, 181, 1, 23, 177]
abbrev dktX2_turnedLine_3 : List UInt8 := dkwX2_turnedLine_3 ++ []
def dkwX2_turnedLine_2 : List UInt8 := [42, 6, 182, 0, 82, 191, 42, 182, 0, 75, 44, 4, 181, 1, 20, 42, 180, 0, 105, 89, 180, 1, 23, 4]
abbrev dktX2_turnedLine_2 : List UInt8 := dkwX2_turnedLine_2 ++ dktX2_turnedLine_3
def dkwX2_turnedLine_1 : List UInt8 := [193, 0, 240, 154, 0, 9, 42, 5, 182, 0, 82, 191, 43, 192, 0, 240, 77, 44, 180, 1, 20, 153, 0, 9]
abbrev dktX2_turnedLine_1 : List UInt8 := dkwX2_turnedLine_1 ++ dktX2_turnedLine_2
def dkwX2_turnedLine_0 : List UInt8 := [42, 4, 182, 0, 197, 42, 182, 0, 102, 42, 180, 0, 105, 42, 180, 0, 61, 182, 0, 109, 76, 43]
abbrev dktX2_turnedLine_0 : List UInt8 := dkwX2_turnedLine_0 ++ dktX2_turnedLine_1
theorem dksX2_turnedLine_0 : cX2_turnedLine.data.toList.drop 0 = dktX2_turnedLine_0 := by decide +kernel
theorem dksX2_turnedLine_1 : cX2_turnedLine.data.toList.drop 22 = dktX2_turnedLine_1 := dk_seg dksX2_turnedLine_0 22 rfl rfl
theorem dksX2_turnedLine_2 : cX2_turnedLine.data.toList.drop 46 = dktX2_turnedLine_2 := dk_seg dksX2_turnedLine_1 24 rfl rfl
theorem dksX2_turnedLine_3 : cX2_turnedLine.data.toList.drop 70 = dktX2_turnedLine_3 := dk_seg dksX2_turnedLine_2 24 rfl rfl
theorem dX2_turnedLine_0 : decode cX2_turnedLine 0 = .ok (.aload_n 0, 1) := dk_42 (dk_at dksX2_turnedLine_0 0 rfl rfl)
theorem dX2_turnedLine_1 : decode cX2_turnedLine 1 = .ok (.iconst 1, 1) := dk_4 (dk_at dksX2_turnedLine_0 1 rfl rfl)
theorem dX2_turnedLine_2 : decode cX2_turnedLine 2 = .ok (.invokevirtual 197, 3) := dk_182 0 197 (dk_at dksX2_turnedLine_0 2 rfl rfl)
theorem dX2_turnedLine_5 : decode cX2_turnedLine 5 = .ok (.aload_n 0, 1) := dk_42 (dk_at dksX2_turnedLine_0 5 rfl rfl)
theorem dX2_turnedLine_6 : decode cX2_turnedLine 6 = .ok (.invokevirtual 102, 3) := dk_182 0 102 (dk_at dksX2_turnedLine_0 6 rfl rfl)
theorem dX2_turnedLine_9 : decode cX2_turnedLine 9 = .ok (.aload_n 0, 1) := dk_42 (dk_at dksX2_turnedLine_0 9 rfl rfl)
theorem dX2_turnedLine_10 : decode cX2_turnedLine 10 = .ok (.getfield 105, 3) := dk_180 0 105 (dk_at dksX2_turnedLine_0 10 rfl rfl)
theorem dX2_turnedLine_13 : decode cX2_turnedLine 13 = .ok (.aload_n 0, 1) := dk_42 (dk_at dksX2_turnedLine_0 13 rfl rfl)
theorem dX2_turnedLine_14 : decode cX2_turnedLine 14 = .ok (.getfield 61, 3) := dk_180 0 61 (dk_at dksX2_turnedLine_0 14 rfl rfl)
theorem dX2_turnedLine_17 : decode cX2_turnedLine 17 = .ok (.invokevirtual 109, 3) := dk_182 0 109 (dk_at dksX2_turnedLine_0 17 rfl rfl)
theorem dX2_turnedLine_20 : decode cX2_turnedLine 20 = .ok (.astore_n 1, 1) := dk_76 (dk_at dksX2_turnedLine_0 20 rfl rfl)
theorem dX2_turnedLine_21 : decode cX2_turnedLine 21 = .ok (.aload_n 1, 1) := dk_43 (dk_at dksX2_turnedLine_0 21 rfl rfl)
theorem dX2_turnedLine_22 : decode cX2_turnedLine 22 = .ok (.instanceof 240, 3) := dk_193 0 240 (dk_at dksX2_turnedLine_1 0 rfl rfl)
theorem dX2_turnedLine_25 : decode cX2_turnedLine 25 = .ok (.ifCond .ne 9, 3) := dk_154 0 9 (dk_at dksX2_turnedLine_1 3 rfl rfl)
theorem dX2_turnedLine_28 : decode cX2_turnedLine 28 = .ok (.aload_n 0, 1) := dk_42 (dk_at dksX2_turnedLine_1 6 rfl rfl)
theorem dX2_turnedLine_29 : decode cX2_turnedLine 29 = .ok (.iconst 2, 1) := dk_5 (dk_at dksX2_turnedLine_1 7 rfl rfl)
theorem dX2_turnedLine_30 : decode cX2_turnedLine 30 = .ok (.invokevirtual 82, 3) := dk_182 0 82 (dk_at dksX2_turnedLine_1 8 rfl rfl)
theorem dX2_turnedLine_33 : decode cX2_turnedLine 33 = .ok (.athrow, 1) := dk_191 (dk_at dksX2_turnedLine_1 11 rfl rfl)
theorem dX2_turnedLine_34 : decode cX2_turnedLine 34 = .ok (.aload_n 1, 1) := dk_43 (dk_at dksX2_turnedLine_1 12 rfl rfl)
theorem dX2_turnedLine_35 : decode cX2_turnedLine 35 = .ok (.checkcast 240, 3) := dk_192 0 240 (dk_at dksX2_turnedLine_1 13 rfl rfl)
theorem dX2_turnedLine_38 : decode cX2_turnedLine 38 = .ok (.astore_n 2, 1) := dk_77 (dk_at dksX2_turnedLine_1 16 rfl rfl)
theorem dX2_turnedLine_39 : decode cX2_turnedLine 39 = .ok (.aload_n 2, 1) := dk_44 (dk_at dksX2_turnedLine_1 17 rfl rfl)
theorem dX2_turnedLine_40 : decode cX2_turnedLine 40 = .ok (.getfield 276, 3) := dk_180 1 20 (dk_at dksX2_turnedLine_1 18 rfl rfl)
theorem dX2_turnedLine_43 : decode cX2_turnedLine 43 = .ok (.ifCond .eq 9, 3) := dk_153 0 9 (dk_at dksX2_turnedLine_1 21 rfl rfl)
theorem dX2_turnedLine_46 : decode cX2_turnedLine 46 = .ok (.aload_n 0, 1) := dk_42 (dk_at dksX2_turnedLine_2 0 rfl rfl)
theorem dX2_turnedLine_47 : decode cX2_turnedLine 47 = .ok (.iconst 3, 1) := dk_6 (dk_at dksX2_turnedLine_2 1 rfl rfl)
theorem dX2_turnedLine_48 : decode cX2_turnedLine 48 = .ok (.invokevirtual 82, 3) := dk_182 0 82 (dk_at dksX2_turnedLine_2 2 rfl rfl)
theorem dX2_turnedLine_51 : decode cX2_turnedLine 51 = .ok (.athrow, 1) := dk_191 (dk_at dksX2_turnedLine_2 5 rfl rfl)
theorem dX2_turnedLine_52 : decode cX2_turnedLine 52 = .ok (.aload_n 0, 1) := dk_42 (dk_at dksX2_turnedLine_2 6 rfl rfl)
theorem dX2_turnedLine_53 : decode cX2_turnedLine 53 = .ok (.invokevirtual 75, 3) := dk_182 0 75 (dk_at dksX2_turnedLine_2 7 rfl rfl)
theorem dX2_turnedLine_56 : decode cX2_turnedLine 56 = .ok (.aload_n 2, 1) := dk_44 (dk_at dksX2_turnedLine_2 10 rfl rfl)
theorem dX2_turnedLine_57 : decode cX2_turnedLine 57 = .ok (.iconst 1, 1) := dk_4 (dk_at dksX2_turnedLine_2 11 rfl rfl)
theorem dX2_turnedLine_58 : decode cX2_turnedLine 58 = .ok (.putfield 276, 3) := dk_181 1 20 (dk_at dksX2_turnedLine_2 12 rfl rfl)
theorem dX2_turnedLine_61 : decode cX2_turnedLine 61 = .ok (.aload_n 0, 1) := dk_42 (dk_at dksX2_turnedLine_2 15 rfl rfl)
theorem dX2_turnedLine_62 : decode cX2_turnedLine 62 = .ok (.getfield 105, 3) := dk_180 0 105 (dk_at dksX2_turnedLine_2 16 rfl rfl)
theorem dX2_turnedLine_65 : decode cX2_turnedLine 65 = .ok (.dup, 1) := dk_89 (dk_at dksX2_turnedLine_2 19 rfl rfl)
theorem dX2_turnedLine_66 : decode cX2_turnedLine 66 = .ok (.getfield 279, 3) := dk_180 1 23 (dk_at dksX2_turnedLine_2 20 rfl rfl)
theorem dX2_turnedLine_69 : decode cX2_turnedLine 69 = .ok (.iconst 1, 1) := dk_4 (dk_at dksX2_turnedLine_2 23 rfl rfl)
theorem dX2_turnedLine_70 : decode cX2_turnedLine 70 = .ok (.iadd, 1) := dk_96 (dk_at dksX2_turnedLine_3 0 rfl rfl)
theorem dX2_turnedLine_71 : decode cX2_turnedLine 71 = .ok (.putfield 279, 3) := dk_181 1 23 (dk_at dksX2_turnedLine_3 1 rfl rfl)
theorem dX2_turnedLine_74 : decode cX2_turnedLine 74 = .ok (.return_, 1) := dk_177 (dk_at dksX2_turnedLine_3 4 rfl rfl)
theorem q117 : (Jvm.Cond.initialized "ElephantLine$Reader") ∈ lw_all := lw_g (lw_at lw_m1 2 rfl) rfl
theorem q156 : (Jvm.Cond.instantiable "ElephantLine$Reader" (10 : Nat)) ∈ lw_all := lw_g (lw_at lw_m1 41 rfl) rfl
theorem q158 : (Jvm.Cond.instanceMethod ({ cls := "ElephantLine$Reader", name := "<init>", desc := "([B)V" } : Jvm.MethodName)) ∈ lw_all := lw_g (lw_at lw_m1 43 rfl) rfl
theorem q159 : (Jvm.Cond.code ({ cls := "ElephantLine$Reader", name := "<init>", desc := "([B)V" } : Jvm.MethodName) prog_15_method_1_code (2 : Nat) (Option.none : Option Jvm.ClassFile.FieldType)) ∈ lw_all := lw_g (lw_at lw_m1 44 rfl) rfl
theorem q160 : (Jvm.Cond.methodLink "ElephantLine$Reader" (3 : Nat) ({ cls := "java/lang/Object", name := "<init>", desc := "()V" } : Jvm.MethodName)) ∈ lw_all := lw_g (lw_at lw_m1 45 rfl) rfl
theorem q161 : (Jvm.Cond.classLink "ElephantLine$Reader" (9 : Nat) "ElephantLine$Refused") ∈ lw_all := lw_g (lw_at lw_m1 46 rfl) rfl
theorem q201 : (Jvm.Cond.methodLink "ElephantLine$Reader" (11 : Nat) ({ cls := "ElephantLine$Refused", name := "<init>", desc := "()V" } : Jvm.MethodName)) ∈ lw_all := lw_g (lw_at lw_m1 86 rfl) rfl
theorem q235 : (Jvm.Cond.fieldLink "ElephantLine$Reader" (12 : Nat) "ElephantLine$Reader" "wrong" "LElephantLine$Refused;") ∈ lw_all := lw_g (lw_at lw_m1 120 rfl) rfl
theorem q236 : (Jvm.Cond.fieldLink "ElephantLine$Reader" (22 : Nat) "ElephantLine$Reader" "text" "[B") ∈ lw_all := lw_g (lw_at lw_m1 121 rfl) rfl
theorem q237 : (Jvm.Cond.fieldLink "ElephantLine$Reader" (18 : Nat) "ElephantLine$Reader" "letters" "[C") ∈ lw_all := lw_g (lw_at lw_m1 122 rfl) rfl
theorem q238 : (Jvm.Cond.fieldLink "ElephantLine$Reader" (33 : Nat) "ElephantLine$Reader" "size" "I") ∈ lw_all := lw_g (lw_at lw_m1 123 rfl) rfl
theorem q239 : (Jvm.Cond.fieldLink "ElephantLine$Reader" (40 : Nat) "ElephantLine$Reader" "end" "I") ∈ lw_all := lw_g (lw_at lw_m1 124 rfl) rfl
theorem q240 : (Jvm.Cond.fieldLink "ElephantLine$Reader" (47 : Nat) "ElephantLine$Reader" "token" "I") ∈ lw_all := lw_g (lw_at lw_m1 125 rfl) rfl
theorem q241 : (Jvm.Cond.fieldLink "ElephantLine$Reader" (26 : Nat) "ElephantLine$Reader" "at" "I") ∈ lw_all := lw_g (lw_at lw_m1 126 rfl) rfl
theorem q242 : (Jvm.Cond.fieldLink "ElephantLine$Reader" (68 : Nat) "ElephantLine$Reader" "whole" "I") ∈ lw_all := lw_g (lw_at lw_m1 127 rfl) rfl
theorem q243 : (Jvm.Cond.fieldLink "ElephantLine$Reader" (61 : Nat) "ElephantLine$Reader" "word" "Ljava/lang/String;") ∈ lw_all := lw_g (lw_at lw_m1 128 rfl) rfl
theorem q244 : (Jvm.Cond.fieldLink "ElephantLine$Reader" (105 : Nat) "ElephantLine$Reader" "war" "LElephantLine$War;") ∈ lw_all := lw_g (lw_at lw_m1 129 rfl) rfl
theorem q245 : (Jvm.Cond.laysFinal "ElephantLine$Reader" "ElephantLine$Reader" "wrong" "LElephantLine$Refused;") ∈ lw_all := lw_g (lw_at lw_m1 130 rfl) rfl
theorem q246 : (Jvm.Cond.soleField "ElephantLine$Reader" "wrong") ∈ lw_all := lw_g (lw_at lw_m1 131 rfl) rfl
theorem q247 : (Jvm.Cond.laysFinal "ElephantLine$Reader" "ElephantLine$Reader" "text" "[B") ∈ lw_all := lw_g (lw_at lw_m1 132 rfl) rfl
theorem q248 : (Jvm.Cond.soleField "ElephantLine$Reader" "text") ∈ lw_all := lw_g (lw_at lw_m1 133 rfl) rfl
theorem q249 : (Jvm.Cond.laysFinal "ElephantLine$Reader" "ElephantLine$Reader" "letters" "[C") ∈ lw_all := lw_g (lw_at lw_m1 134 rfl) rfl
theorem q250 : (Jvm.Cond.soleField "ElephantLine$Reader" "letters") ∈ lw_all := lw_g (lw_at lw_m1 135 rfl) rfl
theorem q251 : (Jvm.Cond.lays "ElephantLine$Reader" "ElephantLine$Reader" "size" "I") ∈ lw_all := lw_g (lw_at lw_m1 136 rfl) rfl
theorem q252 : (Jvm.Cond.soleField "ElephantLine$Reader" "size") ∈ lw_all := lw_g (lw_at lw_m1 137 rfl) rfl
theorem q253 : (Jvm.Cond.lays "ElephantLine$Reader" "ElephantLine$Reader" "end" "I") ∈ lw_all := lw_g (lw_at lw_m1 138 rfl) rfl
theorem q254 : (Jvm.Cond.soleField "ElephantLine$Reader" "end") ∈ lw_all := lw_g (lw_at lw_m1 139 rfl) rfl
theorem q255 : (Jvm.Cond.lays "ElephantLine$Reader" "ElephantLine$Reader" "token" "I") ∈ lw_all := lw_g (lw_at lw_m1 140 rfl) rfl
theorem q256 : (Jvm.Cond.soleField "ElephantLine$Reader" "token") ∈ lw_all := lw_g (lw_at lw_m1 141 rfl) rfl
theorem q257 : (Jvm.Cond.lays "ElephantLine$Reader" "ElephantLine$Reader" "at" "I") ∈ lw_all := lw_g (lw_at lw_m1 142 rfl) rfl
theorem q258 : (Jvm.Cond.soleField "ElephantLine$Reader" "at") ∈ lw_all := lw_g (lw_at lw_m1 143 rfl) rfl
theorem q259 : (Jvm.Cond.lays "ElephantLine$Reader" "ElephantLine$Reader" "whole" "I") ∈ lw_all := lw_g (lw_at lw_m1 144 rfl) rfl
theorem q260 : (Jvm.Cond.soleField "ElephantLine$Reader" "whole") ∈ lw_all := lw_g (lw_at lw_m1 145 rfl) rfl
theorem q261 : (Jvm.Cond.lays "ElephantLine$Reader" "ElephantLine$Reader" "word" "Ljava/lang/String;") ∈ lw_all := lw_g (lw_at lw_m1 146 rfl) rfl
theorem q262 : (Jvm.Cond.soleField "ElephantLine$Reader" "word") ∈ lw_all := lw_g (lw_at lw_m1 147 rfl) rfl
theorem q263 : (Jvm.Cond.lays "ElephantLine$Reader" "ElephantLine$Reader" "war" "LElephantLine$War;") ∈ lw_all := lw_g (lw_at lw_m1 148 rfl) rfl
theorem q264 : (Jvm.Cond.soleField "ElephantLine$Reader" "war") ∈ lw_all := lw_g (lw_at lw_m1 149 rfl) rfl
theorem q265 : (Jvm.Cond.superclass "ElephantLine$Reader" "java/lang/Object") ∈ lw_all := lw_g (lw_at lw_m1 150 rfl) rfl
theorem q464 : (Jvm.Cond.instanceMethod ({ cls := "ElephantLine$Reader", name := "read", desc := "(I)LElephantLine$War;" } : Jvm.MethodName)) ∈ lw_all := lw_g (lw_at lw_m2 109 rfl) rfl
theorem q465 : (Jvm.Cond.selects "ElephantLine$Reader" ({ cls := "ElephantLine$Reader", name := "read", desc := "(I)LElephantLine$War;" } : Jvm.MethodName) ({ cls := "ElephantLine$Reader", name := "read", desc := "(I)LElephantLine$War;" } : Jvm.MethodName)) ∈ lw_all := lw_g (lw_at lw_m2 110 rfl) rfl
theorem q466 : (Jvm.Cond.code ({ cls := "ElephantLine$Reader", name := "read", desc := "(I)LElephantLine$War;" } : Jvm.MethodName) prog_15_method_16_code (3 : Nat) (Option.some (Jvm.ClassFile.FieldType.object "ElephantLine$War"))) ∈ lw_all := lw_g (lw_at lw_m2 111 rfl) rfl
theorem q467 : (Jvm.Cond.classLink "ElephantLine$Reader" (110 : Nat) "ElephantLine$War") ∈ lw_all := lw_g (lw_at lw_m2 112 rfl) rfl
theorem q469 : (Jvm.Cond.methodLinkNest "ElephantLine$Reader" (135 : Nat) ({ cls := "ElephantLine$War", name := "<init>", desc := "()V" } : Jvm.MethodName) "ElephantLine") ∈ lw_tbl := lw_at lw_m2 114 rfl
theorem q481 : (Jvm.Cond.fieldLink "ElephantLine$Reader" (142 : Nat) "ElephantLine$War" "stands" "[LElephantLine$Stand;") ∈ lw_all := lw_g (lw_at lw_m2 126 rfl) rfl
theorem q485 : (Jvm.Cond.fieldLink "ElephantLine$Reader" (185 : Nat) "ElephantLine$War" "strong" "[I") ∈ lw_all := lw_g (lw_at lw_m2 130 rfl) rfl
theorem q487 : (Jvm.Cond.fieldLink "ElephantLine$Reader" (273 : Nat) "ElephantLine$War" "passes" "[I") ∈ lw_all := lw_g (lw_at lw_m2 132 rfl) rfl
theorem q491 : (Jvm.Cond.fieldLink "ElephantLine$Reader" (251 : Nat) "ElephantLine$War" "beasts" "[LElephantLine$Beast;") ∈ lw_all := lw_g (lw_at lw_m2 136 rfl) rfl
theorem q493 : (Jvm.Cond.fieldLink "ElephantLine$Reader" (258 : Nat) "ElephantLine$War" "cities" "[LElephantLine$City;") ∈ lw_all := lw_g (lw_at lw_m2 138 rfl) rfl
theorem q495 : (Jvm.Cond.fieldLink "ElephantLine$Reader" (132 : Nat) "ElephantLine$War" "lanes" "I") ∈ lw_all := lw_g (lw_at lw_m2 140 rfl) rfl
theorem q498 : (Jvm.Cond.fieldLink "ElephantLine$Reader" (174 : Nat) "ElephantLine$War" "deep" "I") ∈ lw_all := lw_g (lw_at lw_m2 143 rfl) rfl
theorem q500 : (Jvm.Cond.fieldLink "ElephantLine$Reader" (205 : Nat) "ElephantLine$War" "laneMany" "I") ∈ lw_all := lw_g (lw_at lw_m2 145 rfl) rfl
theorem q506 : (Jvm.Cond.fieldLink "ElephantLine$Reader" (139 : Nat) "ElephantLine$War" "beastMany" "I") ∈ lw_all := lw_g (lw_at lw_m2 151 rfl) rfl
theorem q510 : (Jvm.Cond.fieldLink "ElephantLine$Reader" (255 : Nat) "ElephantLine$War" "cityMany" "I") ∈ lw_all := lw_g (lw_at lw_m2 155 rfl) rfl
theorem q511 : (Jvm.Cond.fieldLink "ElephantLine$Reader" (263 : Nat) "ElephantLine$War" "passMany" "I") ∈ lw_all := lw_g (lw_at lw_m2 156 rfl) rfl
theorem q513 : (Jvm.Cond.fieldLink "ElephantLine$Reader" (279 : Nat) "ElephantLine$War" "turnedMany" "I") ∈ lw_all := lw_g (lw_at lw_m2 158 rfl) rfl
theorem q540 : (Jvm.Cond.methodLink "ElephantLine$Reader" (75 : Nat) ({ cls := "ElephantLine$Reader", name := "next", desc := "()V" } : Jvm.MethodName)) ∈ lw_all := lw_g (lw_at lw_m2 185 rfl) rfl
theorem q541 : (Jvm.Cond.privateMethod ({ cls := "ElephantLine$Reader", name := "next", desc := "()V" } : Jvm.MethodName)) ∈ lw_tbl := lw_at lw_m2 186 rfl
theorem q542 : (Jvm.Cond.instanceMethod ({ cls := "ElephantLine$Reader", name := "next", desc := "()V" } : Jvm.MethodName)) ∈ lw_all := lw_g (lw_at lw_m2 187 rfl) rfl
theorem q543 : (Jvm.Cond.code ({ cls := "ElephantLine$Reader", name := "next", desc := "()V" } : Jvm.MethodName) prog_15_method_6_code (3 : Nat) (Option.none : Option Jvm.ClassFile.FieldType)) ∈ lw_all := lw_g (lw_at lw_m2 188 rfl) rfl
theorem q544 : (Jvm.Cond.methodLink "ElephantLine$Reader" (43 : Nat) ({ cls := "ElephantLine$Reader", name := "see", desc := "(I)I" } : Jvm.MethodName)) ∈ lw_all := lw_g (lw_at lw_m2 189 rfl) rfl
theorem q545 : (Jvm.Cond.privateMethod ({ cls := "ElephantLine$Reader", name := "see", desc := "(I)I" } : Jvm.MethodName)) ∈ lw_tbl := lw_at lw_m2 190 rfl
theorem q546 : (Jvm.Cond.instanceMethod ({ cls := "ElephantLine$Reader", name := "see", desc := "(I)I" } : Jvm.MethodName)) ∈ lw_all := lw_g (lw_at lw_m2 191 rfl) rfl
theorem q547 : (Jvm.Cond.code ({ cls := "ElephantLine$Reader", name := "see", desc := "(I)I" } : Jvm.MethodName) prog_15_method_3_code (2 : Nat) (Option.some Jvm.ClassFile.FieldType.int)) ∈ lw_all := lw_g (lw_at lw_m2 192 rfl) rfl
theorem q548 : (Jvm.Cond.methodLink "ElephantLine$Reader" (50 : Nat) ({ cls := "ElephantLine$Reader", name := "isSmall", desc := "(I)Z" } : Jvm.MethodName)) ∈ lw_all := lw_g (lw_at lw_m2 193 rfl) rfl
theorem q549 : (Jvm.Cond.static ({ cls := "ElephantLine$Reader", name := "isSmall", desc := "(I)Z" } : Jvm.MethodName)) ∈ lw_all := lw_g (lw_at lw_m2 194 rfl) rfl
theorem q550 : (Jvm.Cond.code ({ cls := "ElephantLine$Reader", name := "isSmall", desc := "(I)Z" } : Jvm.MethodName) prog_15_method_4_code (1 : Nat) (Option.some Jvm.ClassFile.FieldType.boolean)) ∈ lw_all := lw_g (lw_at lw_m2 195 rfl) rfl
theorem q551 : (Jvm.Cond.methodLinkNest "ElephantLine$Reader" (36 : Nat) ({ cls := "ElephantLine", name := "in", desc := "(III)Z" } : Jvm.MethodName) "ElephantLine") ∈ lw_tbl := lw_at lw_m2 196 rfl
theorem q552 : (Jvm.Cond.classLink "ElephantLine$Reader" (54 : Nat) "java/lang/String") ∈ lw_all := lw_g (lw_at lw_m2 197 rfl) rfl
theorem q554 : (Jvm.Cond.methodLink "ElephantLine$Reader" (56 : Nat) ({ cls := "java/lang/String", name := "<init>", desc := "([CII)V" } : Jvm.MethodName)) ∈ lw_all := lw_g (lw_at lw_m2 199 rfl) rfl
theorem q630 : (Jvm.Cond.stringRef "ElephantLine$Reader" (59 : Nat) "") ∈ lw_tbl := lw_at lw_m3 35 rfl
theorem q631 : (Jvm.Cond.methodLink "ElephantLine$Reader" (65 : Nat) ({ cls := "ElephantLine$Reader", name := "isDigit", desc := "(I)Z" } : Jvm.MethodName)) ∈ lw_all := lw_g (lw_at lw_m3 36 rfl) rfl
theorem q632 : (Jvm.Cond.static ({ cls := "ElephantLine$Reader", name := "isDigit", desc := "(I)Z" } : Jvm.MethodName)) ∈ lw_all := lw_g (lw_at lw_m3 37 rfl) rfl
theorem q633 : (Jvm.Cond.code ({ cls := "ElephantLine$Reader", name := "isDigit", desc := "(I)Z" } : Jvm.MethodName) prog_15_method_5_code (1 : Nat) (Option.some Jvm.ClassFile.FieldType.boolean)) ∈ lw_all := lw_g (lw_at lw_m3 38 rfl) rfl
theorem q634 : (Jvm.Cond.methodLink "ElephantLine$Reader" (136 : Nat) ({ cls := "ElephantLine$Reader", name := "line", desc := "()V" } : Jvm.MethodName)) ∈ lw_all := lw_g (lw_at lw_m3 39 rfl) rfl
theorem q635 : (Jvm.Cond.privateMethod ({ cls := "ElephantLine$Reader", name := "line", desc := "()V" } : Jvm.MethodName)) ∈ lw_tbl := lw_at lw_m3 40 rfl
theorem q636 : (Jvm.Cond.instanceMethod ({ cls := "ElephantLine$Reader", name := "line", desc := "()V" } : Jvm.MethodName)) ∈ lw_all := lw_g (lw_at lw_m3 41 rfl) rfl
theorem q637 : (Jvm.Cond.code ({ cls := "ElephantLine$Reader", name := "line", desc := "()V" } : Jvm.MethodName) prog_15_method_17_code (3 : Nat) (Option.none : Option Jvm.ClassFile.FieldType)) ∈ lw_all := lw_g (lw_at lw_m3 42 rfl) rfl
theorem q638 : (Jvm.Cond.methodLink "ElephantLine$Reader" (82 : Nat) ({ cls := "ElephantLine$Reader", name := "fail", desc := "(I)LElephantLine$Refused;" } : Jvm.MethodName)) ∈ lw_all := lw_g (lw_at lw_m3 43 rfl) rfl
theorem q639 : (Jvm.Cond.privateMethod ({ cls := "ElephantLine$Reader", name := "fail", desc := "(I)LElephantLine$Refused;" } : Jvm.MethodName)) ∈ lw_tbl := lw_at lw_m3 44 rfl
theorem q640 : (Jvm.Cond.instanceMethod ({ cls := "ElephantLine$Reader", name := "fail", desc := "(I)LElephantLine$Refused;" } : Jvm.MethodName)) ∈ lw_all := lw_g (lw_at lw_m3 45 rfl) rfl
theorem q641 : (Jvm.Cond.code ({ cls := "ElephantLine$Reader", name := "fail", desc := "(I)LElephantLine$Refused;" } : Jvm.MethodName) prog_15_method_2_code (2 : Nat) (Option.some (Jvm.ClassFile.FieldType.object "ElephantLine$Refused"))) ∈ lw_all := lw_g (lw_at lw_m3 46 rfl) rfl
theorem q642 : (Jvm.Cond.methodLink "ElephantLine$Reader" (30 : Nat) ({ cls := "ElephantLine$Refused", name := "at", desc := "(II)LElephantLine$Refused;" } : Jvm.MethodName)) ∈ lw_all := lw_g (lw_at lw_m3 47 rfl) rfl
theorem q646 : (Jvm.Cond.methodLink "ElephantLine$Reader" (86 : Nat) ({ cls := "java/lang/String", name := "hashCode", desc := "()I" } : Jvm.MethodName)) ∈ lw_all := lw_g (lw_at lw_m3 51 rfl) rfl
theorem q699 : (Jvm.Cond.stringRef "ElephantLine$Reader" (90 : Nat) "field") ∈ lw_tbl := lw_at lw_m3 104 rfl
theorem q700 : (Jvm.Cond.methodLink "ElephantLine$Reader" (71 : Nat) ({ cls := "java/lang/String", name := "equals", desc := "(Ljava/lang/Object;)Z" } : Jvm.MethodName)) ∈ lw_all := lw_g (lw_at lw_m3 105 rfl) rfl
theorem q708 : (Jvm.Cond.stringRef "ElephantLine$Reader" (92 : Nat) "lane") ∈ lw_tbl := lw_at lw_m3 113 rfl
theorem q709 : (Jvm.Cond.stringRef "ElephantLine$Reader" (94 : Nat) "beast") ∈ lw_tbl := lw_at lw_m3 114 rfl
theorem q710 : (Jvm.Cond.stringRef "ElephantLine$Reader" (96 : Nat) "city") ∈ lw_tbl := lw_at lw_m3 115 rfl
theorem q711 : (Jvm.Cond.stringRef "ElephantLine$Reader" (98 : Nat) "pass") ∈ lw_tbl := lw_at lw_m3 116 rfl
theorem q712 : (Jvm.Cond.stringRef "ElephantLine$Reader" (100 : Nat) "turned") ∈ lw_tbl := lw_at lw_m3 117 rfl
theorem q713 : (Jvm.Cond.methodLink "ElephantLine$Reader" (149 : Nat) ({ cls := "ElephantLine$Reader", name := "fieldLine", desc := "()V" } : Jvm.MethodName)) ∈ lw_all := lw_g (lw_at lw_m3 118 rfl) rfl
theorem q714 : (Jvm.Cond.privateMethod ({ cls := "ElephantLine$Reader", name := "fieldLine", desc := "()V" } : Jvm.MethodName)) ∈ lw_tbl := lw_at lw_m3 119 rfl
theorem q715 : (Jvm.Cond.instanceMethod ({ cls := "ElephantLine$Reader", name := "fieldLine", desc := "()V" } : Jvm.MethodName)) ∈ lw_all := lw_g (lw_at lw_m3 120 rfl) rfl
theorem q716 : (Jvm.Cond.code ({ cls := "ElephantLine$Reader", name := "fieldLine", desc := "()V" } : Jvm.MethodName) prog_15_method_18_code (2 : Nat) (Option.none : Option Jvm.ClassFile.FieldType)) ∈ lw_all := lw_g (lw_at lw_m3 121 rfl) rfl
theorem q717 : (Jvm.Cond.stringRef "ElephantLine$Reader" (167 : Nat) "lanes") ∈ lw_tbl := lw_at lw_m3 122 rfl
theorem q718 : (Jvm.Cond.methodLink "ElephantLine$Reader" (168 : Nat) ({ cls := "ElephantLine$Reader", name := "after", desc := "(Ljava/lang/String;II)I" } : Jvm.MethodName)) ∈ lw_all := lw_g (lw_at lw_m3 123 rfl) rfl
theorem q719 : (Jvm.Cond.privateMethod ({ cls := "ElephantLine$Reader", name := "after", desc := "(Ljava/lang/String;II)I" } : Jvm.MethodName)) ∈ lw_tbl := lw_at lw_m3 124 rfl
theorem q720 : (Jvm.Cond.instanceMethod ({ cls := "ElephantLine$Reader", name := "after", desc := "(Ljava/lang/String;II)I" } : Jvm.MethodName)) ∈ lw_all := lw_g (lw_at lw_m3 125 rfl) rfl
theorem q721 : (Jvm.Cond.code ({ cls := "ElephantLine$Reader", name := "after", desc := "(Ljava/lang/String;II)I" } : Jvm.MethodName) prog_15_method_14_code (4 : Nat) (Option.some Jvm.ClassFile.FieldType.int)) ∈ lw_all := lw_g (lw_at lw_m3 126 rfl) rfl
theorem q722 : (Jvm.Cond.methodLink "ElephantLine$Reader" (126 : Nat) ({ cls := "ElephantLine$Reader", name := "must", desc := "(Ljava/lang/String;)V" } : Jvm.MethodName)) ∈ lw_all := lw_g (lw_at lw_m3 127 rfl) rfl
theorem q723 : (Jvm.Cond.privateMethod ({ cls := "ElephantLine$Reader", name := "must", desc := "(Ljava/lang/String;)V" } : Jvm.MethodName)) ∈ lw_tbl := lw_at lw_m3 128 rfl
theorem q724 : (Jvm.Cond.instanceMethod ({ cls := "ElephantLine$Reader", name := "must", desc := "(Ljava/lang/String;)V" } : Jvm.MethodName)) ∈ lw_all := lw_g (lw_at lw_m3 129 rfl) rfl
theorem q725 : (Jvm.Cond.code ({ cls := "ElephantLine$Reader", name := "must", desc := "(Ljava/lang/String;)V" } : Jvm.MethodName) prog_15_method_8_code (2 : Nat) (Option.none : Option Jvm.ClassFile.FieldType)) ∈ lw_all := lw_g (lw_at lw_m3 130 rfl) rfl
theorem q726 : (Jvm.Cond.methodLink "ElephantLine$Reader" (78 : Nat) ({ cls := "ElephantLine$Reader", name := "takes", desc := "(Ljava/lang/String;)Z" } : Jvm.MethodName)) ∈ lw_all := lw_g (lw_at lw_m3 131 rfl) rfl
theorem q727 : (Jvm.Cond.privateMethod ({ cls := "ElephantLine$Reader", name := "takes", desc := "(Ljava/lang/String;)Z" } : Jvm.MethodName)) ∈ lw_tbl := lw_at lw_m3 132 rfl
theorem q728 : (Jvm.Cond.instanceMethod ({ cls := "ElephantLine$Reader", name := "takes", desc := "(Ljava/lang/String;)Z" } : Jvm.MethodName)) ∈ lw_all := lw_g (lw_at lw_m3 133 rfl) rfl
theorem q729 : (Jvm.Cond.code ({ cls := "ElephantLine$Reader", name := "takes", desc := "(Ljava/lang/String;)Z" } : Jvm.MethodName) prog_15_method_7_code (2 : Nat) (Option.some Jvm.ClassFile.FieldType.boolean)) ∈ lw_all := lw_g (lw_at lw_m3 134 rfl) rfl
theorem q730 : (Jvm.Cond.methodLink "ElephantLine$Reader" (130 : Nat) ({ cls := "ElephantLine$Reader", name := "number", desc := "(II)I" } : Jvm.MethodName)) ∈ lw_all := lw_g (lw_at lw_m3 135 rfl) rfl
theorem q731 : (Jvm.Cond.privateMethod ({ cls := "ElephantLine$Reader", name := "number", desc := "(II)I" } : Jvm.MethodName)) ∈ lw_tbl := lw_at lw_m3 136 rfl
theorem q732 : (Jvm.Cond.instanceMethod ({ cls := "ElephantLine$Reader", name := "number", desc := "(II)I" } : Jvm.MethodName)) ∈ lw_all := lw_g (lw_at lw_m3 137 rfl) rfl
theorem q733 : (Jvm.Cond.code ({ cls := "ElephantLine$Reader", name := "number", desc := "(II)I" } : Jvm.MethodName) prog_15_method_13_code (4 : Nat) (Option.some Jvm.ClassFile.FieldType.int)) ∈ lw_all := lw_g (lw_at lw_m3 138 rfl) rfl
theorem q734 : (Jvm.Cond.methodLink "ElephantLine$Reader" (122 : Nat) ({ cls := "ElephantLine$Reader", name := "numberHere", desc := "(II)I" } : Jvm.MethodName)) ∈ lw_all := lw_g (lw_at lw_m3 139 rfl) rfl
theorem q735 : (Jvm.Cond.privateMethod ({ cls := "ElephantLine$Reader", name := "numberHere", desc := "(II)I" } : Jvm.MethodName)) ∈ lw_tbl := lw_at lw_m3 140 rfl
theorem q736 : (Jvm.Cond.instanceMethod ({ cls := "ElephantLine$Reader", name := "numberHere", desc := "(II)I" } : Jvm.MethodName)) ∈ lw_all := lw_g (lw_at lw_m3 141 rfl) rfl
theorem q737 : (Jvm.Cond.code ({ cls := "ElephantLine$Reader", name := "numberHere", desc := "(II)I" } : Jvm.MethodName) prog_15_method_12_code (3 : Nat) (Option.some Jvm.ClassFile.FieldType.int)) ∈ lw_all := lw_g (lw_at lw_m3 142 rfl) rfl
theorem q738 : (Jvm.Cond.stringRef "ElephantLine$Reader" (172 : Nat) "deep") ∈ lw_tbl := lw_at lw_m3 143 rfl
theorem q739 : (Jvm.Cond.methodLink "ElephantLine$Reader" (152 : Nat) ({ cls := "ElephantLine$Reader", name := "laneLine", desc := "()V" } : Jvm.MethodName)) ∈ lw_all := lw_g (lw_at lw_m3 144 rfl) rfl
theorem q740 : (Jvm.Cond.privateMethod ({ cls := "ElephantLine$Reader", name := "laneLine", desc := "()V" } : Jvm.MethodName)) ∈ lw_tbl := lw_at lw_m3 145 rfl
theorem q741 : (Jvm.Cond.instanceMethod ({ cls := "ElephantLine$Reader", name := "laneLine", desc := "()V" } : Jvm.MethodName)) ∈ lw_all := lw_g (lw_at lw_m3 146 rfl) rfl
theorem q742 : (Jvm.Cond.code ({ cls := "ElephantLine$Reader", name := "laneLine", desc := "()V" } : Jvm.MethodName) prog_15_method_20_code (2 : Nat) (Option.none : Option Jvm.ClassFile.FieldType)) ∈ lw_all := lw_g (lw_at lw_m3 147 rfl) rfl
theorem q743 : (Jvm.Cond.methodLink "ElephantLine$Reader" (197 : Nat) ({ cls := "ElephantLine$Reader", name := "begins", desc := "(Z)V" } : Jvm.MethodName)) ∈ lw_all := lw_g (lw_at lw_m3 148 rfl) rfl
theorem q744 : (Jvm.Cond.privateMethod ({ cls := "ElephantLine$Reader", name := "begins", desc := "(Z)V" } : Jvm.MethodName)) ∈ lw_tbl := lw_at lw_m3 149 rfl
theorem q745 : (Jvm.Cond.instanceMethod ({ cls := "ElephantLine$Reader", name := "begins", desc := "(Z)V" } : Jvm.MethodName)) ∈ lw_all := lw_g (lw_at lw_m3 150 rfl) rfl
theorem q746 : (Jvm.Cond.code ({ cls := "ElephantLine$Reader", name := "begins", desc := "(Z)V" } : Jvm.MethodName) prog_15_method_15_code (2 : Nat) (Option.none : Option Jvm.ClassFile.FieldType)) ∈ lw_all := lw_g (lw_at lw_m3 151 rfl) rfl
theorem q747 : (Jvm.Cond.methodLink "ElephantLine$Reader" (201 : Nat) ({ cls := "ElephantLine$Reader", name := "standOf", desc := "(I)LElephantLine$Stand;" } : Jvm.MethodName)) ∈ lw_all := lw_g (lw_at lw_m3 152 rfl) rfl
theorem q748 : (Jvm.Cond.privateMethod ({ cls := "ElephantLine$Reader", name := "standOf", desc := "(I)LElephantLine$Stand;" } : Jvm.MethodName)) ∈ lw_tbl := lw_at lw_m3 153 rfl
theorem q749 : (Jvm.Cond.instanceMethod ({ cls := "ElephantLine$Reader", name := "standOf", desc := "(I)LElephantLine$Stand;" } : Jvm.MethodName)) ∈ lw_all := lw_g (lw_at lw_m3 154 rfl) rfl
theorem q750 : (Jvm.Cond.code ({ cls := "ElephantLine$Reader", name := "standOf", desc := "(I)LElephantLine$Stand;" } : Jvm.MethodName) prog_15_method_19_code (2 : Nat) (Option.some (Jvm.ClassFile.FieldType.object "ElephantLine$Stand"))) ∈ lw_all := lw_g (lw_at lw_m3 155 rfl) rfl
theorem q751 : (Jvm.Cond.stringRef "ElephantLine$Reader" (176 : Nat) "open") ∈ lw_tbl := lw_at lw_m3 156 rfl
theorem q752 : (Jvm.Cond.classLink "ElephantLine$Reader" (146 : Nat) "ElephantLine$Stand") ∈ lw_all := lw_g (lw_at lw_m3 157 rfl) rfl
theorem q754 : (Jvm.Cond.methodLinkNest "ElephantLine$Reader" (148 : Nat) ({ cls := "ElephantLine$Stand", name := "<init>", desc := "()V" } : Jvm.MethodName) "ElephantLine") ∈ lw_tbl := lw_at lw_m3 159 rfl
theorem q759 : (Jvm.Cond.stringRef "ElephantLine$Reader" (178 : Nat) "pigs") ∈ lw_tbl := lw_at lw_m3 164 rfl
theorem q760 : (Jvm.Cond.classLink "ElephantLine$Reader" (180 : Nat) "ElephantLine$Pigs") ∈ lw_all := lw_g (lw_at lw_m3 165 rfl) rfl
theorem q762 : (Jvm.Cond.methodLinkNest "ElephantLine$Reader" (182 : Nat) ({ cls := "ElephantLine$Pigs", name := "<init>", desc := "()V" } : Jvm.MethodName) "ElephantLine") ∈ lw_tbl := lw_at lw_m3 167 rfl
theorem q767 : (Jvm.Cond.stringRef "ElephantLine$Reader" (183 : Nat) "foot") ∈ lw_tbl := lw_at lw_m3 172 rfl
theorem q768 : (Jvm.Cond.classLink "ElephantLine$Reader" (189 : Nat) "ElephantLine$Foot") ∈ lw_all := lw_g (lw_at lw_m3 173 rfl) rfl
theorem q770 : (Jvm.Cond.methodLinkNest "ElephantLine$Reader" (191 : Nat) ({ cls := "ElephantLine$Foot", name := "<init>", desc := "()V" } : Jvm.MethodName) "ElephantLine") ∈ lw_tbl := lw_at lw_m3 175 rfl
theorem q775 : (Jvm.Cond.stringRef "ElephantLine$Reader" (192 : Nat) "horse") ∈ lw_tbl := lw_at lw_m3 180 rfl
theorem q776 : (Jvm.Cond.classLink "ElephantLine$Reader" (194 : Nat) "ElephantLine$Horse") ∈ lw_all := lw_g (lw_at lw_m3 181 rfl) rfl
theorem q778 : (Jvm.Cond.methodLinkNest "ElephantLine$Reader" (196 : Nat) ({ cls := "ElephantLine$Horse", name := "<init>", desc := "()V" } : Jvm.MethodName) "ElephantLine") ∈ lw_tbl := lw_at lw_m3 183 rfl
theorem q783 : (Jvm.Cond.methodLink "ElephantLine$Reader" (155 : Nat) ({ cls := "ElephantLine$Reader", name := "beastLine", desc := "()V" } : Jvm.MethodName)) ∈ lw_all := lw_g (lw_at lw_m3 188 rfl) rfl
theorem q784 : (Jvm.Cond.privateMethod ({ cls := "ElephantLine$Reader", name := "beastLine", desc := "()V" } : Jvm.MethodName)) ∈ lw_tbl := lw_at lw_m3 189 rfl
theorem q785 : (Jvm.Cond.instanceMethod ({ cls := "ElephantLine$Reader", name := "beastLine", desc := "()V" } : Jvm.MethodName)) ∈ lw_all := lw_g (lw_at lw_m3 190 rfl) rfl
theorem q786 : (Jvm.Cond.code ({ cls := "ElephantLine$Reader", name := "beastLine", desc := "()V" } : Jvm.MethodName) prog_15_method_22_code (2 : Nat) (Option.none : Option Jvm.ClassFile.FieldType)) ∈ lw_all := lw_g (lw_at lw_m3 191 rfl) rfl
theorem q787 : (Jvm.Cond.methodLink "ElephantLine$Reader" (230 : Nat) ({ cls := "ElephantLine$Reader", name := "newName", desc := "()Ljava/lang/String;" } : Jvm.MethodName)) ∈ lw_all := lw_g (lw_at lw_m3 192 rfl) rfl
theorem q788 : (Jvm.Cond.privateMethod ({ cls := "ElephantLine$Reader", name := "newName", desc := "()Ljava/lang/String;" } : Jvm.MethodName)) ∈ lw_tbl := lw_at lw_m3 193 rfl
theorem q789 : (Jvm.Cond.instanceMethod ({ cls := "ElephantLine$Reader", name := "newName", desc := "()Ljava/lang/String;" } : Jvm.MethodName)) ∈ lw_all := lw_g (lw_at lw_m3 194 rfl) rfl
theorem q790 : (Jvm.Cond.code ({ cls := "ElephantLine$Reader", name := "newName", desc := "()Ljava/lang/String;" } : Jvm.MethodName) prog_15_method_10_code (2 : Nat) (Option.some (Jvm.ClassFile.FieldType.object "java/lang/String"))) ∈ lw_all := lw_g (lw_at lw_m3 195 rfl) rfl
theorem q791 : (Jvm.Cond.methodLink "ElephantLine$Reader" (102 : Nat) ({ cls := "ElephantLine$Reader", name := "mustName", desc := "()V" } : Jvm.MethodName)) ∈ lw_all := lw_g (lw_at lw_m3 196 rfl) rfl
theorem q792 : (Jvm.Cond.privateMethod ({ cls := "ElephantLine$Reader", name := "mustName", desc := "()V" } : Jvm.MethodName)) ∈ lw_tbl := lw_at lw_m3 197 rfl
theorem q793 : (Jvm.Cond.instanceMethod ({ cls := "ElephantLine$Reader", name := "mustName", desc := "()V" } : Jvm.MethodName)) ∈ lw_all := lw_g (lw_at lw_m3 198 rfl) rfl
theorem q794 : (Jvm.Cond.code ({ cls := "ElephantLine$Reader", name := "mustName", desc := "()V" } : Jvm.MethodName) prog_15_method_9_code (3 : Nat) (Option.none : Option Jvm.ClassFile.FieldType)) ∈ lw_all := lw_g (lw_at lw_m3 199 rfl) rfl
theorem q795 : (Jvm.Cond.methodLink "ElephantLine$Reader" (109 : Nat) ({ cls := "ElephantLine$War", name := "find", desc := "(Ljava/lang/String;)LElephantLine$Named;" } : Jvm.MethodName)) ∈ lw_all := lw_g (lw_at lw_m3 200 rfl) rfl
theorem q800 : (Jvm.Cond.methodLink "ElephantLine$Reader" (234 : Nat) ({ cls := "ElephantLine$Reader", name := "beastOf", desc := "(Ljava/lang/String;I)LElephantLine$Beast;" } : Jvm.MethodName)) ∈ lw_all := lw_g (lw_at lw_m3 205 rfl) rfl
theorem q801 : (Jvm.Cond.privateMethod ({ cls := "ElephantLine$Reader", name := "beastOf", desc := "(Ljava/lang/String;I)LElephantLine$Beast;" } : Jvm.MethodName)) ∈ lw_tbl := lw_at lw_m3 206 rfl
theorem q802 : (Jvm.Cond.instanceMethod ({ cls := "ElephantLine$Reader", name := "beastOf", desc := "(Ljava/lang/String;I)LElephantLine$Beast;" } : Jvm.MethodName)) ∈ lw_all := lw_g (lw_at lw_m3 207 rfl) rfl
theorem q803 : (Jvm.Cond.code ({ cls := "ElephantLine$Reader", name := "beastOf", desc := "(Ljava/lang/String;I)LElephantLine$Beast;" } : Jvm.MethodName) prog_15_method_21_code (3 : Nat) (Option.some (Jvm.ClassFile.FieldType.object "ElephantLine$Beast"))) ∈ lw_all := lw_g (lw_at lw_m3 208 rfl) rfl
theorem q804 : (Jvm.Cond.stringRef "ElephantLine$Reader" (208 : Nat) "plain") ∈ lw_tbl := lw_at lw_m3 209 rfl
theorem q805 : (Jvm.Cond.classLink "ElephantLine$Reader" (210 : Nat) "ElephantLine$Plain") ∈ lw_all := lw_g (lw_at lw_m3 210 rfl) rfl
theorem q807 : (Jvm.Cond.methodLink "ElephantLine$Reader" (212 : Nat) ({ cls := "ElephantLine$Plain", name := "<init>", desc := "(Ljava/lang/String;I)V" } : Jvm.MethodName)) ∈ lw_all := lw_g (lw_at lw_m3 212 rfl) rfl
theorem q818 : (Jvm.Cond.fieldLink "ElephantLine$Reader" (239 : Nat) "ElephantLine$Beast" "lane" "I") ∈ lw_all := lw_g (lw_at lw_m3 223 rfl) rfl
theorem q821 : (Jvm.Cond.fieldLink "ElephantLine$Reader" (245 : Nat) "ElephantLine$Beast" "mood" "I") ∈ lw_all := lw_g (lw_at lw_m3 226 rfl) rfl
theorem q823 : (Jvm.Cond.fieldLink "ElephantLine$Reader" (249 : Nat) "ElephantLine$Beast" "price" "I") ∈ lw_all := lw_g (lw_at lw_m3 228 rfl) rfl
theorem q825 : (Jvm.Cond.fieldLink "ElephantLine$Reader" (276 : Nat) "ElephantLine$Beast" "turned" "Z") ∈ lw_all := lw_g (lw_at lw_m3 230 rfl) rfl
theorem q832 : (Jvm.Cond.fieldLink "ElephantLine$Reader" (117 : Nat) "ElephantLine$Named" "number" "I") ∈ lw_all := lw_g (lw_at lw_m3 237 rfl) rfl
theorem q846 : (Jvm.Cond.stringRef "ElephantLine$Reader" (215 : Nat) "calf") ∈ lw_tbl := lw_at lw_m4 11 rfl
theorem q847 : (Jvm.Cond.classLink "ElephantLine$Reader" (217 : Nat) "ElephantLine$Calf") ∈ lw_all := lw_g (lw_at lw_m4 12 rfl) rfl
theorem q849 : (Jvm.Cond.methodLink "ElephantLine$Reader" (219 : Nat) ({ cls := "ElephantLine$Calf", name := "<init>", desc := "(Ljava/lang/String;I)V" } : Jvm.MethodName)) ∈ lw_all := lw_g (lw_at lw_m4 14 rfl) rfl
theorem q860 : (Jvm.Cond.stringRef "ElephantLine$Reader" (220 : Nat) "drunk") ∈ lw_tbl := lw_at lw_m4 25 rfl
theorem q861 : (Jvm.Cond.classLink "ElephantLine$Reader" (222 : Nat) "ElephantLine$Drunk") ∈ lw_all := lw_g (lw_at lw_m4 26 rfl) rfl
theorem q863 : (Jvm.Cond.methodLink "ElephantLine$Reader" (224 : Nat) ({ cls := "ElephantLine$Drunk", name := "<init>", desc := "(Ljava/lang/String;I)V" } : Jvm.MethodName)) ∈ lw_all := lw_g (lw_at lw_m4 28 rfl) rfl
theorem q874 : (Jvm.Cond.stringRef "ElephantLine$Reader" (225 : Nat) "mailed") ∈ lw_tbl := lw_at lw_m4 39 rfl
theorem q875 : (Jvm.Cond.classLink "ElephantLine$Reader" (227 : Nat) "ElephantLine$Mailed") ∈ lw_all := lw_g (lw_at lw_m4 40 rfl) rfl
theorem q877 : (Jvm.Cond.methodLink "ElephantLine$Reader" (229 : Nat) ({ cls := "ElephantLine$Mailed", name := "<init>", desc := "(Ljava/lang/String;I)V" } : Jvm.MethodName)) ∈ lw_all := lw_g (lw_at lw_m4 42 rfl) rfl
theorem q888 : (Jvm.Cond.stringRef "ElephantLine$Reader" (238 : Nat) "in") ∈ lw_tbl := lw_at lw_m4 53 rfl
theorem q889 : (Jvm.Cond.stringRef "ElephantLine$Reader" (243 : Nat) "mood") ∈ lw_tbl := lw_at lw_m4 54 rfl
theorem q890 : (Jvm.Cond.stringRef "ElephantLine$Reader" (247 : Nat) "price") ∈ lw_tbl := lw_at lw_m4 55 rfl
theorem q891 : (Jvm.Cond.methodLink "ElephantLine$Reader" (158 : Nat) ({ cls := "ElephantLine$Reader", name := "cityLine", desc := "()V" } : Jvm.MethodName)) ∈ lw_all := lw_g (lw_at lw_m4 56 rfl) rfl
theorem q892 : (Jvm.Cond.privateMethod ({ cls := "ElephantLine$Reader", name := "cityLine", desc := "()V" } : Jvm.MethodName)) ∈ lw_tbl := lw_at lw_m4 57 rfl
theorem q893 : (Jvm.Cond.instanceMethod ({ cls := "ElephantLine$Reader", name := "cityLine", desc := "()V" } : Jvm.MethodName)) ∈ lw_all := lw_g (lw_at lw_m4 58 rfl) rfl
theorem q894 : (Jvm.Cond.code ({ cls := "ElephantLine$Reader", name := "cityLine", desc := "()V" } : Jvm.MethodName) prog_15_method_23_code (1 : Nat) (Option.none : Option Jvm.ClassFile.FieldType)) ∈ lw_all := lw_g (lw_at lw_m4 59 rfl) rfl
theorem q895 : (Jvm.Cond.classLink "ElephantLine$Reader" (115 : Nat) "ElephantLine$City") ∈ lw_all := lw_g (lw_at lw_m4 60 rfl) rfl
theorem q897 : (Jvm.Cond.methodLink "ElephantLine$Reader" (262 : Nat) ({ cls := "ElephantLine$City", name := "<init>", desc := "(Ljava/lang/String;I)V" } : Jvm.MethodName)) ∈ lw_all := lw_g (lw_at lw_m4 62 rfl) rfl
theorem q904 : (Jvm.Cond.methodLink "ElephantLine$Reader" (161 : Nat) ({ cls := "ElephantLine$Reader", name := "passLine", desc := "()V" } : Jvm.MethodName)) ∈ lw_all := lw_g (lw_at lw_m4 69 rfl) rfl
theorem q905 : (Jvm.Cond.privateMethod ({ cls := "ElephantLine$Reader", name := "passLine", desc := "()V" } : Jvm.MethodName)) ∈ lw_tbl := lw_at lw_m4 70 rfl
theorem q906 : (Jvm.Cond.instanceMethod ({ cls := "ElephantLine$Reader", name := "passLine", desc := "()V" } : Jvm.MethodName)) ∈ lw_all := lw_g (lw_at lw_m4 71 rfl) rfl
theorem q907 : (Jvm.Cond.code ({ cls := "ElephantLine$Reader", name := "passLine", desc := "()V" } : Jvm.MethodName) prog_15_method_24_code (4 : Nat) (Option.none : Option Jvm.ClassFile.FieldType)) ∈ lw_all := lw_g (lw_at lw_m4 72 rfl) rfl
theorem q908 : (Jvm.Cond.methodLink "ElephantLine$Reader" (266 : Nat) ({ cls := "ElephantLine$Reader", name := "cityHere", desc := "()I" } : Jvm.MethodName)) ∈ lw_all := lw_g (lw_at lw_m4 73 rfl) rfl
theorem q909 : (Jvm.Cond.privateMethod ({ cls := "ElephantLine$Reader", name := "cityHere", desc := "()I" } : Jvm.MethodName)) ∈ lw_tbl := lw_at lw_m4 74 rfl
theorem q910 : (Jvm.Cond.instanceMethod ({ cls := "ElephantLine$Reader", name := "cityHere", desc := "()I" } : Jvm.MethodName)) ∈ lw_all := lw_g (lw_at lw_m4 75 rfl) rfl
theorem q911 : (Jvm.Cond.code ({ cls := "ElephantLine$Reader", name := "cityHere", desc := "()I" } : Jvm.MethodName) prog_15_method_11_code (2 : Nat) (Option.some Jvm.ClassFile.FieldType.int)) ∈ lw_all := lw_g (lw_at lw_m4 76 rfl) rfl
theorem q912 : (Jvm.Cond.methodLink "ElephantLine$Reader" (269 : Nat) ({ cls := "ElephantLine$War", name := "pass", desc := "(II)I" } : Jvm.MethodName)) ∈ lw_all := lw_g (lw_at lw_m4 77 rfl) rfl
theorem q916 : (Jvm.Cond.stringRef "ElephantLine$Reader" (271 : Nat) "loses") ∈ lw_tbl := lw_at lw_m4 81 rfl
theorem q917 : (Jvm.Cond.methodLink "ElephantLine$Reader" (164 : Nat) ({ cls := "ElephantLine$Reader", name := "turnedLine", desc := "()V" } : Jvm.MethodName)) ∈ lw_all := lw_g (lw_at lw_m4 82 rfl) rfl
theorem q918 : (Jvm.Cond.privateMethod ({ cls := "ElephantLine$Reader", name := "turnedLine", desc := "()V" } : Jvm.MethodName)) ∈ lw_tbl := lw_at lw_m4 83 rfl
theorem q919 : (Jvm.Cond.instanceMethod ({ cls := "ElephantLine$Reader", name := "turnedLine", desc := "()V" } : Jvm.MethodName)) ∈ lw_all := lw_g (lw_at lw_m4 84 rfl) rfl
theorem q920 : (Jvm.Cond.code ({ cls := "ElephantLine$Reader", name := "turnedLine", desc := "()V" } : Jvm.MethodName) prog_15_method_25_code (3 : Nat) (Option.none : Option Jvm.ClassFile.FieldType)) ∈ lw_all := lw_g (lw_at lw_m4 85 rfl) rfl
theorem q921 : (Jvm.Cond.classLink "ElephantLine$Reader" (240 : Nat) "ElephantLine$Beast") ∈ lw_all := lw_g (lw_at lw_m4 86 rfl) rfl
theorem q2253 : (Jvm.Cond.castable "ElephantLine$Reader" "java/lang/Object") ∈ lw_tbl := lw_at lw_m9 218 rfl
theorem in_X2 : ∀ w ∈ wsX20, w ∈ lw_all := lw_in wsX20 [245, 247, 249, 251, 253, 255, 257, 259, 261, 263] (by decide +kernel) (by decide +kernel)
/-! ElephantLine$Refused -/
set_option maxRecDepth 100000
def RX3 : String := "ElephantLine$Refused"
def TX3 : u_T := fun k => match k with
  | 0 => ("java/lang/Throwable", "cause", "Ljava/lang/Throwable;", false)
  | 1 => ("java/lang/Throwable", "stackTrace", "[Ljava/lang/StackTraceElement;", false)
  | 2 => ("java/lang/Throwable", "suppressedExceptions", "Ljava/util/List;", false)
  | 3 => ("java/lang/Throwable", "detailMessage", "Ljava/lang/String;", false)
  | 4 => ("java/lang/Throwable", "backtrace", "Ljava/lang/Object;", false)
  | 5 => ("java/lang/Throwable", "depth", "I", false)
  | 6 => ("ElephantLine$Refused", "fault", "I", false)
  | _ => ("ElephantLine$Refused", "place", "I", false)
def tyX3 : Nat → FieldType := fun k => match k with
  | 0 => .object "java/lang/Throwable"
  | 1 => .array (.object "java/lang/StackTraceElement")
  | 2 => .object "java/util/List"
  | 3 => .object "java/lang/String"
  | 4 => .object "java/lang/Object"
  | 5 => .int
  | 6 => .int
  | _ => .int
abbrev wsX30 : List Cond := u_ws RX3 TX3 8
theorem nmX3 : ∀ a, a < 8 → ∀ b, b < 8 → a ≠ b → (TX3 a).2.1 ≠ (TX3 b).2.1 := by decide +kernel
theorem tyX3_ok : ∀ k, k < 8 → parseFieldDescriptor (TX3 k).2.2.1 = some (tyX3 k) := by decide +kernel
abbrev cX3_init : ByteArray := prog_16_method_1_code
def yX3_init : MethodName := ⟨RX3, "<init>", "()V"⟩
def dkwX3_init_0 : List UInt8 := [42, 1, 1, 3, 3, 183, 0, 3, 42, 2, 181, 0, 9, 177]
abbrev dktX3_init_0 : List UInt8 := dkwX3_init_0 ++ []
theorem dksX3_init_0 : cX3_init.data.toList.drop 0 = dktX3_init_0 := by decide +kernel
theorem dX3_init_0 : decode cX3_init 0 = .ok (.aload_n 0, 1) := dk_42 (dk_at dksX3_init_0 0 rfl rfl)
theorem dX3_init_1 : decode cX3_init 1 = .ok (.aconst_null, 1) := dk_1 (dk_at dksX3_init_0 1 rfl rfl)
theorem dX3_init_2 : decode cX3_init 2 = .ok (.aconst_null, 1) := dk_1 (dk_at dksX3_init_0 2 rfl rfl)
theorem dX3_init_3 : decode cX3_init 3 = .ok (.iconst 0, 1) := dk_3 (dk_at dksX3_init_0 3 rfl rfl)
theorem dX3_init_4 : decode cX3_init 4 = .ok (.iconst 0, 1) := dk_3 (dk_at dksX3_init_0 4 rfl rfl)
theorem dX3_init_5 : decode cX3_init 5 = .ok (.invokespecial 3, 3) := dk_183 0 3 (dk_at dksX3_init_0 5 rfl rfl)
theorem dX3_init_8 : decode cX3_init 8 = .ok (.aload_n 0, 1) := dk_42 (dk_at dksX3_init_0 8 rfl rfl)
theorem dX3_init_9 : decode cX3_init 9 = .ok (.iconst (-1), 1) := dk_2 (dk_at dksX3_init_0 9 rfl rfl)
theorem dX3_init_10 : decode cX3_init 10 = .ok (.putfield 9, 3) := dk_181 0 9 (dk_at dksX3_init_0 10 rfl rfl)
theorem dX3_init_13 : decode cX3_init 13 = .ok (.return_, 1) := dk_177 (dk_at dksX3_init_0 13 rfl rfl)
abbrev cX3_at : ByteArray := prog_16_method_2_code
def yX3_at : MethodName := ⟨RX3, "at", "(II)LElephantLine$Refused;"⟩
def dkwX3_at_0 : List UInt8 := [42, 27, 181, 0, 15, 42, 28, 181, 0, 9, 42, 176]
abbrev dktX3_at_0 : List UInt8 := dkwX3_at_0 ++ []
theorem dksX3_at_0 : cX3_at.data.toList.drop 0 = dktX3_at_0 := by decide +kernel
theorem dX3_at_0 : decode cX3_at 0 = .ok (.aload_n 0, 1) := dk_42 (dk_at dksX3_at_0 0 rfl rfl)
theorem dX3_at_1 : decode cX3_at 1 = .ok (.iload_n 1, 1) := dk_27 (dk_at dksX3_at_0 1 rfl rfl)
theorem dX3_at_2 : decode cX3_at 2 = .ok (.putfield 15, 3) := dk_181 0 15 (dk_at dksX3_at_0 2 rfl rfl)
theorem dX3_at_5 : decode cX3_at 5 = .ok (.aload_n 0, 1) := dk_42 (dk_at dksX3_at_0 5 rfl rfl)
theorem dX3_at_6 : decode cX3_at 6 = .ok (.iload_n 2, 1) := dk_28 (dk_at dksX3_at_0 6 rfl rfl)
theorem dX3_at_7 : decode cX3_at 7 = .ok (.putfield 9, 3) := dk_181 0 9 (dk_at dksX3_at_0 7 rfl rfl)
theorem dX3_at_10 : decode cX3_at 10 = .ok (.aload_n 0, 1) := dk_42 (dk_at dksX3_at_0 10 rfl rfl)
theorem dX3_at_11 : decode cX3_at 11 = .ok (.areturn, 1) := dk_176 (dk_at dksX3_at_0 11 rfl rfl)
theorem q121 : (Jvm.Cond.initialized "ElephantLine$Refused") ∈ lw_all := lw_g (lw_at lw_m1 6 rfl) rfl
theorem q162 : (Jvm.Cond.instantiable "ElephantLine$Refused" (8 : Nat)) ∈ lw_all := lw_g (lw_at lw_m1 47 rfl) rfl
theorem q163 : (Jvm.Cond.castable "ElephantLine$Refused" "ElephantLine$Refused") ∈ lw_tbl := lw_at lw_m1 48 rfl
theorem q170 : (Jvm.Cond.selects "ElephantLine$Refused" ({ cls := "java/lang/Throwable", name := "fillInStackTrace", desc := "(I)Ljava/lang/Throwable;" } : Jvm.MethodName) ({ cls := "java/lang/Throwable", name := "fillInStackTrace", desc := "(I)Ljava/lang/Throwable;" } : Jvm.MethodName)) ∈ lw_all := lw_g (lw_at lw_m1 55 rfl) rfl
theorem q171 : (Jvm.Cond.selects "ElephantLine$Refused" ({ cls := "java/lang/Throwable", name := "fillInStackTrace", desc := "()Ljava/lang/Throwable;" } : Jvm.MethodName) ({ cls := "java/lang/Throwable", name := "fillInStackTrace", desc := "()Ljava/lang/Throwable;" } : Jvm.MethodName)) ∈ lw_all := lw_g (lw_at lw_m1 56 rfl) rfl
theorem q172 : (Jvm.Cond.lays "ElephantLine$Refused" "java/lang/Throwable" "cause" "Ljava/lang/Throwable;") ∈ lw_all := lw_g (lw_at lw_m1 57 rfl) rfl
theorem q174 : (Jvm.Cond.lays "ElephantLine$Refused" "java/lang/Throwable" "stackTrace" "[Ljava/lang/StackTraceElement;") ∈ lw_all := lw_g (lw_at lw_m1 59 rfl) rfl
theorem q176 : (Jvm.Cond.lays "ElephantLine$Refused" "java/lang/Throwable" "suppressedExceptions" "Ljava/util/List;") ∈ lw_all := lw_g (lw_at lw_m1 61 rfl) rfl
theorem q178 : (Jvm.Cond.lays "ElephantLine$Refused" "java/lang/Throwable" "detailMessage" "Ljava/lang/String;") ∈ lw_all := lw_g (lw_at lw_m1 63 rfl) rfl
theorem q180 : (Jvm.Cond.lays "ElephantLine$Refused" "java/lang/Throwable" "backtrace" "Ljava/lang/Object;") ∈ lw_all := lw_g (lw_at lw_m1 65 rfl) rfl
theorem q202 : (Jvm.Cond.instanceMethod ({ cls := "ElephantLine$Refused", name := "<init>", desc := "()V" } : Jvm.MethodName)) ∈ lw_all := lw_g (lw_at lw_m1 87 rfl) rfl
theorem q203 : (Jvm.Cond.code ({ cls := "ElephantLine$Refused", name := "<init>", desc := "()V" } : Jvm.MethodName) prog_16_method_1_code (1 : Nat) (Option.none : Option Jvm.ClassFile.FieldType)) ∈ lw_all := lw_g (lw_at lw_m1 88 rfl) rfl
theorem q204 : (Jvm.Cond.methodLink "ElephantLine$Refused" (3 : Nat) ({ cls := "java/lang/RuntimeException", name := "<init>", desc := "(Ljava/lang/String;Ljava/lang/Throwable;ZZ)V" } : Jvm.MethodName)) ∈ lw_all := lw_g (lw_at lw_m1 89 rfl) rfl
theorem q213 : (Jvm.Cond.fieldLink "ElephantLine$Refused" (15 : Nat) "ElephantLine$Refused" "fault" "I") ∈ lw_all := lw_g (lw_at lw_m1 98 rfl) rfl
theorem q215 : (Jvm.Cond.fieldLink "ElephantLine$Refused" (9 : Nat) "ElephantLine$Refused" "place" "I") ∈ lw_all := lw_g (lw_at lw_m1 100 rfl) rfl
theorem q222 : (Jvm.Cond.lays "ElephantLine$Refused" "ElephantLine$Refused" "fault" "I") ∈ lw_all := lw_g (lw_at lw_m1 107 rfl) rfl
theorem q223 : (Jvm.Cond.soleField "ElephantLine$Refused" "fault") ∈ lw_all := lw_g (lw_at lw_m1 108 rfl) rfl
theorem q224 : (Jvm.Cond.lays "ElephantLine$Refused" "ElephantLine$Refused" "place" "I") ∈ lw_all := lw_g (lw_at lw_m1 109 rfl) rfl
theorem q225 : (Jvm.Cond.soleField "ElephantLine$Refused" "place") ∈ lw_all := lw_g (lw_at lw_m1 110 rfl) rfl
theorem q230 : (Jvm.Cond.lays "ElephantLine$Refused" "java/lang/Throwable" "depth" "I") ∈ lw_all := lw_g (lw_at lw_m1 115 rfl) rfl
theorem q233 : (Jvm.Cond.superclass "ElephantLine$Refused" "java/lang/RuntimeException") ∈ lw_all := lw_g (lw_at lw_m1 118 rfl) rfl
theorem q643 : (Jvm.Cond.instanceMethod ({ cls := "ElephantLine$Refused", name := "at", desc := "(II)LElephantLine$Refused;" } : Jvm.MethodName)) ∈ lw_all := lw_g (lw_at lw_m3 48 rfl) rfl
theorem q644 : (Jvm.Cond.selects "ElephantLine$Refused" ({ cls := "ElephantLine$Refused", name := "at", desc := "(II)LElephantLine$Refused;" } : Jvm.MethodName) ({ cls := "ElephantLine$Refused", name := "at", desc := "(II)LElephantLine$Refused;" } : Jvm.MethodName)) ∈ lw_all := lw_g (lw_at lw_m3 49 rfl) rfl
theorem q645 : (Jvm.Cond.code ({ cls := "ElephantLine$Refused", name := "at", desc := "(II)LElephantLine$Refused;" } : Jvm.MethodName) prog_16_method_2_code (3 : Nat) (Option.some (Jvm.ClassFile.FieldType.object "ElephantLine$Refused"))) ∈ lw_all := lw_g (lw_at lw_m3 50 rfl) rfl
theorem q2254 : (Jvm.Cond.castable "ElephantLine$Refused" "java/lang/Object") ∈ lw_tbl := lw_at lw_m9 219 rfl
theorem in_X3 : ∀ w ∈ wsX30, w ∈ lw_all := lw_in wsX30 [172, 174, 176, 178, 180, 230, 222, 224] (by decide +kernel) (by decide +kernel)
/-! ElephantLine$Front -/
set_option maxRecDepth 100000
def RX4 : String := "ElephantLine$Front"
def TX4 : u_T := fun k => match k with
  | 0 => ("ElephantLine$Front", "lane", "[I", true)
  | 1 => ("ElephantLine$Front", "wounds", "[I", true)
  | 2 => ("ElephantLine$Front", "strong", "[I", true)
  | 3 => ("ElephantLine$Front", "war", "LElephantLine$War;", false)
  | 4 => ("ElephantLine$Front", "dead", "I", false)
  | 5 => ("ElephantLine$Front", "seed", "I", false)
  | 6 => ("ElephantLine$Front", "rain", "Z", false)
  | 7 => ("ElephantLine$Front", "foes", "I", false)
  | 8 => ("ElephantLine$Front", "own", "I", false)
  | _ => ("ElephantLine$Front", "across", "I", false)
def tyX4 : Nat → FieldType := fun k => match k with
  | 0 => .array .int
  | 1 => .array .int
  | 2 => .array .int
  | 3 => .object "ElephantLine$War"
  | 4 => .int
  | 5 => .int
  | 6 => .boolean
  | 7 => .int
  | 8 => .int
  | _ => .int
abbrev wsX40 : List Cond := u_ws RX4 TX4 10
theorem nmX4 : ∀ a, a < 10 → ∀ b, b < 10 → a ≠ b → (TX4 a).2.1 ≠ (TX4 b).2.1 := by decide +kernel
theorem tyX4_ok : ∀ k, k < 10 → parseFieldDescriptor (TX4 k).2.2.1 = some (tyX4 k) := by decide +kernel
abbrev cX4_init : ByteArray := prog_7_method_1_code
def yX4_init : MethodName := ⟨RX4, "<init>", "()V"⟩
def dkwX4_init_1 : List UInt8 := [181, 0, 18, 177]
abbrev dktX4_init_1 : List UInt8 := dkwX4_init_1 ++ []
def dkwX4_init_0 : List UInt8 := [42, 183, 0, 3, 42, 8, 188, 10, 181, 0, 9, 42, 8, 188, 10, 181, 0, 15, 42, 16, 6, 188, 10]
abbrev dktX4_init_0 : List UInt8 := dkwX4_init_0 ++ dktX4_init_1
theorem dksX4_init_0 : cX4_init.data.toList.drop 0 = dktX4_init_0 := by decide +kernel
theorem dksX4_init_1 : cX4_init.data.toList.drop 23 = dktX4_init_1 := dk_seg dksX4_init_0 23 rfl rfl
theorem dX4_init_0 : decode cX4_init 0 = .ok (.aload_n 0, 1) := dk_42 (dk_at dksX4_init_0 0 rfl rfl)
theorem dX4_init_1 : decode cX4_init 1 = .ok (.invokespecial 3, 3) := dk_183 0 3 (dk_at dksX4_init_0 1 rfl rfl)
theorem dX4_init_4 : decode cX4_init 4 = .ok (.aload_n 0, 1) := dk_42 (dk_at dksX4_init_0 4 rfl rfl)
theorem dX4_init_5 : decode cX4_init 5 = .ok (.iconst 5, 1) := dk_8 (dk_at dksX4_init_0 5 rfl rfl)
theorem dX4_init_6 : decode cX4_init 6 = .ok (.newarray .int, 2) := dk_188_10 (dk_at dksX4_init_0 6 rfl rfl)
theorem dX4_init_8 : decode cX4_init 8 = .ok (.putfield 9, 3) := dk_181 0 9 (dk_at dksX4_init_0 8 rfl rfl)
theorem dX4_init_11 : decode cX4_init 11 = .ok (.aload_n 0, 1) := dk_42 (dk_at dksX4_init_0 11 rfl rfl)
theorem dX4_init_12 : decode cX4_init 12 = .ok (.iconst 5, 1) := dk_8 (dk_at dksX4_init_0 12 rfl rfl)
theorem dX4_init_13 : decode cX4_init 13 = .ok (.newarray .int, 2) := dk_188_10 (dk_at dksX4_init_0 13 rfl rfl)
theorem dX4_init_15 : decode cX4_init 15 = .ok (.putfield 15, 3) := dk_181 0 15 (dk_at dksX4_init_0 15 rfl rfl)
theorem dX4_init_18 : decode cX4_init 18 = .ok (.aload_n 0, 1) := dk_42 (dk_at dksX4_init_0 18 rfl rfl)
theorem dX4_init_19 : decode cX4_init 19 = .ok (.bipush 6, 2) := dk_16 6 (dk_at dksX4_init_0 19 rfl rfl)
theorem dX4_init_21 : decode cX4_init 21 = .ok (.newarray .int, 2) := dk_188_10 (dk_at dksX4_init_0 21 rfl rfl)
theorem dX4_init_23 : decode cX4_init 23 = .ok (.putfield 18, 3) := dk_181 0 18 (dk_at dksX4_init_1 0 rfl rfl)
theorem dX4_init_26 : decode cX4_init 26 = .ok (.return_, 1) := dk_177 (dk_at dksX4_init_1 3 rfl rfl)
abbrev cX4_begin : ByteArray := prog_7_method_2_code
def yX4_begin : MethodName := ⟨RX4, "begin", "(LElephantLine$War;)V"⟩
def dkwX4_begin_3 : List UInt8 := [167, 255, 223, 177]
abbrev dktX4_begin_3 : List UInt8 := dkwX4_begin_3 ++ []
def dkwX4_begin_2 : List UInt8 := [180, 0, 9, 28, 43, 180, 0, 48, 28, 50, 180, 0, 52, 79, 42, 180, 0, 15, 28, 3, 79, 132, 2, 1]
abbrev dktX4_begin_2 : List UInt8 := dkwX4_begin_2 ++ dktX4_begin_3
def dkwX4_begin_1 : List UInt8 := [3, 42, 180, 0, 18, 3, 16, 6, 184, 0, 39, 3, 61, 28, 43, 180, 0, 45, 162, 0, 31, 42]
abbrev dktX4_begin_1 : List UInt8 := dkwX4_begin_1 ++ dktX4_begin_2
def dkwX4_begin_0 : List UInt8 := [42, 43, 181, 0, 21, 42, 3, 181, 0, 25, 42, 3, 181, 0, 29, 42, 3, 181, 0, 32, 43, 180, 0, 36]
abbrev dktX4_begin_0 : List UInt8 := dkwX4_begin_0 ++ dktX4_begin_1
theorem dksX4_begin_0 : cX4_begin.data.toList.drop 0 = dktX4_begin_0 := by decide +kernel
theorem dksX4_begin_1 : cX4_begin.data.toList.drop 24 = dktX4_begin_1 := dk_seg dksX4_begin_0 24 rfl rfl
theorem dksX4_begin_2 : cX4_begin.data.toList.drop 46 = dktX4_begin_2 := dk_seg dksX4_begin_1 22 rfl rfl
theorem dksX4_begin_3 : cX4_begin.data.toList.drop 70 = dktX4_begin_3 := dk_seg dksX4_begin_2 24 rfl rfl
theorem dX4_begin_0 : decode cX4_begin 0 = .ok (.aload_n 0, 1) := dk_42 (dk_at dksX4_begin_0 0 rfl rfl)
theorem dX4_begin_1 : decode cX4_begin 1 = .ok (.aload_n 1, 1) := dk_43 (dk_at dksX4_begin_0 1 rfl rfl)
theorem dX4_begin_2 : decode cX4_begin 2 = .ok (.putfield 21, 3) := dk_181 0 21 (dk_at dksX4_begin_0 2 rfl rfl)
theorem dX4_begin_5 : decode cX4_begin 5 = .ok (.aload_n 0, 1) := dk_42 (dk_at dksX4_begin_0 5 rfl rfl)
theorem dX4_begin_6 : decode cX4_begin 6 = .ok (.iconst 0, 1) := dk_3 (dk_at dksX4_begin_0 6 rfl rfl)
theorem dX4_begin_7 : decode cX4_begin 7 = .ok (.putfield 25, 3) := dk_181 0 25 (dk_at dksX4_begin_0 7 rfl rfl)
theorem dX4_begin_10 : decode cX4_begin 10 = .ok (.aload_n 0, 1) := dk_42 (dk_at dksX4_begin_0 10 rfl rfl)
theorem dX4_begin_11 : decode cX4_begin 11 = .ok (.iconst 0, 1) := dk_3 (dk_at dksX4_begin_0 11 rfl rfl)
theorem dX4_begin_12 : decode cX4_begin 12 = .ok (.putfield 29, 3) := dk_181 0 29 (dk_at dksX4_begin_0 12 rfl rfl)
theorem dX4_begin_15 : decode cX4_begin 15 = .ok (.aload_n 0, 1) := dk_42 (dk_at dksX4_begin_0 15 rfl rfl)
theorem dX4_begin_16 : decode cX4_begin 16 = .ok (.iconst 0, 1) := dk_3 (dk_at dksX4_begin_0 16 rfl rfl)
theorem dX4_begin_17 : decode cX4_begin 17 = .ok (.putfield 32, 3) := dk_181 0 32 (dk_at dksX4_begin_0 17 rfl rfl)
theorem dX4_begin_20 : decode cX4_begin 20 = .ok (.aload_n 1, 1) := dk_43 (dk_at dksX4_begin_0 20 rfl rfl)
theorem dX4_begin_21 : decode cX4_begin 21 = .ok (.getfield 36, 3) := dk_180 0 36 (dk_at dksX4_begin_0 21 rfl rfl)
theorem dX4_begin_24 : decode cX4_begin 24 = .ok (.iconst 0, 1) := dk_3 (dk_at dksX4_begin_1 0 rfl rfl)
theorem dX4_begin_25 : decode cX4_begin 25 = .ok (.aload_n 0, 1) := dk_42 (dk_at dksX4_begin_1 1 rfl rfl)
theorem dX4_begin_26 : decode cX4_begin 26 = .ok (.getfield 18, 3) := dk_180 0 18 (dk_at dksX4_begin_1 2 rfl rfl)
theorem dX4_begin_29 : decode cX4_begin 29 = .ok (.iconst 0, 1) := dk_3 (dk_at dksX4_begin_1 5 rfl rfl)
theorem dX4_begin_30 : decode cX4_begin 30 = .ok (.bipush 6, 2) := dk_16 6 (dk_at dksX4_begin_1 6 rfl rfl)
theorem dX4_begin_32 : decode cX4_begin 32 = .ok (.invokestatic 39, 3) := dk_184 0 39 (dk_at dksX4_begin_1 8 rfl rfl)
theorem dX4_begin_35 : decode cX4_begin 35 = .ok (.iconst 0, 1) := dk_3 (dk_at dksX4_begin_1 11 rfl rfl)
theorem dX4_begin_36 : decode cX4_begin 36 = .ok (.istore_n 2, 1) := dk_61 (dk_at dksX4_begin_1 12 rfl rfl)
theorem dX4_begin_37 : decode cX4_begin 37 = .ok (.iload_n 2, 1) := dk_28 (dk_at dksX4_begin_1 13 rfl rfl)
theorem dX4_begin_38 : decode cX4_begin 38 = .ok (.aload_n 1, 1) := dk_43 (dk_at dksX4_begin_1 14 rfl rfl)
theorem dX4_begin_39 : decode cX4_begin 39 = .ok (.getfield 45, 3) := dk_180 0 45 (dk_at dksX4_begin_1 15 rfl rfl)
theorem dX4_begin_42 : decode cX4_begin 42 = .ok (.if_icmp .ge 31, 3) := dk_162 0 31 (dk_at dksX4_begin_1 18 rfl rfl)
theorem dX4_begin_45 : decode cX4_begin 45 = .ok (.aload_n 0, 1) := dk_42 (dk_at dksX4_begin_1 21 rfl rfl)
theorem dX4_begin_46 : decode cX4_begin 46 = .ok (.getfield 9, 3) := dk_180 0 9 (dk_at dksX4_begin_2 0 rfl rfl)
theorem dX4_begin_49 : decode cX4_begin 49 = .ok (.iload_n 2, 1) := dk_28 (dk_at dksX4_begin_2 3 rfl rfl)
theorem dX4_begin_50 : decode cX4_begin 50 = .ok (.aload_n 1, 1) := dk_43 (dk_at dksX4_begin_2 4 rfl rfl)
theorem dX4_begin_51 : decode cX4_begin 51 = .ok (.getfield 48, 3) := dk_180 0 48 (dk_at dksX4_begin_2 5 rfl rfl)
theorem dX4_begin_54 : decode cX4_begin 54 = .ok (.iload_n 2, 1) := dk_28 (dk_at dksX4_begin_2 8 rfl rfl)
theorem dX4_begin_55 : decode cX4_begin 55 = .ok (.aaload, 1) := dk_50 (dk_at dksX4_begin_2 9 rfl rfl)
theorem dX4_begin_56 : decode cX4_begin 56 = .ok (.getfield 52, 3) := dk_180 0 52 (dk_at dksX4_begin_2 10 rfl rfl)
theorem dX4_begin_59 : decode cX4_begin 59 = .ok (.iastore, 1) := dk_79 (dk_at dksX4_begin_2 13 rfl rfl)
theorem dX4_begin_60 : decode cX4_begin 60 = .ok (.aload_n 0, 1) := dk_42 (dk_at dksX4_begin_2 14 rfl rfl)
theorem dX4_begin_61 : decode cX4_begin 61 = .ok (.getfield 15, 3) := dk_180 0 15 (dk_at dksX4_begin_2 15 rfl rfl)
theorem dX4_begin_64 : decode cX4_begin 64 = .ok (.iload_n 2, 1) := dk_28 (dk_at dksX4_begin_2 18 rfl rfl)
theorem dX4_begin_65 : decode cX4_begin 65 = .ok (.iconst 0, 1) := dk_3 (dk_at dksX4_begin_2 19 rfl rfl)
theorem dX4_begin_66 : decode cX4_begin 66 = .ok (.iastore, 1) := dk_79 (dk_at dksX4_begin_2 20 rfl rfl)
theorem dX4_begin_67 : decode cX4_begin 67 = .ok (.iinc 2 1, 3) := dk_132 2 1 (dk_at dksX4_begin_2 21 rfl rfl)
theorem dX4_begin_70 : decode cX4_begin 70 = .ok (.goto (-33), 3) := dk_167 255 223 (dk_at dksX4_begin_3 0 rfl rfl)
theorem dX4_begin_73 : decode cX4_begin 73 = .ok (.return_, 1) := dk_177 (dk_at dksX4_begin_3 3 rfl rfl)
abbrev cX4_isDead : ByteArray := prog_7_method_4_code
def yX4_isDead : MethodName := ⟨RX4, "isDead", "(I)Z"⟩
def dkwX4_isDead_0 : List UInt8 := [42, 180, 0, 25, 27, 184, 0, 56, 172]
abbrev dktX4_isDead_0 : List UInt8 := dkwX4_isDead_0 ++ []
theorem dksX4_isDead_0 : cX4_isDead.data.toList.drop 0 = dktX4_isDead_0 := by decide +kernel
theorem dX4_isDead_0 : decode cX4_isDead 0 = .ok (.aload_n 0, 1) := dk_42 (dk_at dksX4_isDead_0 0 rfl rfl)
theorem dX4_isDead_1 : decode cX4_isDead 1 = .ok (.getfield 25, 3) := dk_180 0 25 (dk_at dksX4_isDead_0 1 rfl rfl)
theorem dX4_isDead_4 : decode cX4_isDead 4 = .ok (.iload_n 1, 1) := dk_27 (dk_at dksX4_isDead_0 4 rfl rfl)
theorem dX4_isDead_5 : decode cX4_isDead 5 = .ok (.invokestatic 56, 3) := dk_184 0 56 (dk_at dksX4_isDead_0 5 rfl rfl)
theorem dX4_isDead_8 : decode cX4_isDead 8 = .ok (.ireturn, 1) := dk_172 (dk_at dksX4_isDead_0 8 rfl rfl)
abbrev cX4_force : ByteArray := prog_7_method_5_code
def yX4_force : MethodName := ⟨RX4, "force", "(I)I"⟩
def dkwX4_force_1 : List UInt8 := [182, 0, 64, 42, 180, 0, 15, 27, 46, 100, 184, 0, 68, 172]
abbrev dktX4_force_1 : List UInt8 := dkwX4_force_1 ++ []
def dkwX4_force_0 : List UInt8 := [42, 27, 182, 0, 60, 153, 0, 7, 3, 167, 0, 26, 3, 42, 180, 0, 21, 180, 0, 48, 27, 50]
abbrev dktX4_force_0 : List UInt8 := dkwX4_force_0 ++ dktX4_force_1
theorem dksX4_force_0 : cX4_force.data.toList.drop 0 = dktX4_force_0 := by decide +kernel
theorem dksX4_force_1 : cX4_force.data.toList.drop 22 = dktX4_force_1 := dk_seg dksX4_force_0 22 rfl rfl
theorem dX4_force_0 : decode cX4_force 0 = .ok (.aload_n 0, 1) := dk_42 (dk_at dksX4_force_0 0 rfl rfl)
theorem dX4_force_1 : decode cX4_force 1 = .ok (.iload_n 1, 1) := dk_27 (dk_at dksX4_force_0 1 rfl rfl)
theorem dX4_force_2 : decode cX4_force 2 = .ok (.invokevirtual 60, 3) := dk_182 0 60 (dk_at dksX4_force_0 2 rfl rfl)
theorem dX4_force_5 : decode cX4_force 5 = .ok (.ifCond .eq 7, 3) := dk_153 0 7 (dk_at dksX4_force_0 5 rfl rfl)
theorem dX4_force_8 : decode cX4_force 8 = .ok (.iconst 0, 1) := dk_3 (dk_at dksX4_force_0 8 rfl rfl)
theorem dX4_force_9 : decode cX4_force 9 = .ok (.goto 26, 3) := dk_167 0 26 (dk_at dksX4_force_0 9 rfl rfl)
theorem dX4_force_12 : decode cX4_force 12 = .ok (.iconst 0, 1) := dk_3 (dk_at dksX4_force_0 12 rfl rfl)
theorem dX4_force_13 : decode cX4_force 13 = .ok (.aload_n 0, 1) := dk_42 (dk_at dksX4_force_0 13 rfl rfl)
theorem dX4_force_14 : decode cX4_force 14 = .ok (.getfield 21, 3) := dk_180 0 21 (dk_at dksX4_force_0 14 rfl rfl)
theorem dX4_force_17 : decode cX4_force 17 = .ok (.getfield 48, 3) := dk_180 0 48 (dk_at dksX4_force_0 17 rfl rfl)
theorem dX4_force_20 : decode cX4_force 20 = .ok (.iload_n 1, 1) := dk_27 (dk_at dksX4_force_0 20 rfl rfl)
theorem dX4_force_21 : decode cX4_force 21 = .ok (.aaload, 1) := dk_50 (dk_at dksX4_force_0 21 rfl rfl)
theorem dX4_force_22 : decode cX4_force 22 = .ok (.invokevirtual 64, 3) := dk_182 0 64 (dk_at dksX4_force_1 0 rfl rfl)
theorem dX4_force_25 : decode cX4_force 25 = .ok (.aload_n 0, 1) := dk_42 (dk_at dksX4_force_1 3 rfl rfl)
theorem dX4_force_26 : decode cX4_force 26 = .ok (.getfield 15, 3) := dk_180 0 15 (dk_at dksX4_force_1 4 rfl rfl)
theorem dX4_force_29 : decode cX4_force 29 = .ok (.iload_n 1, 1) := dk_27 (dk_at dksX4_force_1 7 rfl rfl)
theorem dX4_force_30 : decode cX4_force 30 = .ok (.iaload, 1) := dk_46 (dk_at dksX4_force_1 8 rfl rfl)
theorem dX4_force_31 : decode cX4_force 31 = .ok (.isub, 1) := dk_100 (dk_at dksX4_force_1 9 rfl rfl)
theorem dX4_force_32 : decode cX4_force 32 = .ok (.invokestatic 68, 3) := dk_184 0 68 (dk_at dksX4_force_1 10 rfl rfl)
theorem dX4_force_35 : decode cX4_force 35 = .ok (.ireturn, 1) := dk_172 (dk_at dksX4_force_1 13 rfl rfl)
abbrev cX4_hold : ByteArray := prog_7_method_6_code
def yX4_hold : MethodName := ⟨RX4, "hold", "(I)I"⟩
def dkwX4_hold_0 : List UInt8 := [42, 180, 0, 21, 180, 0, 48, 27, 50, 42, 180, 0, 32, 182, 0, 74, 172]
abbrev dktX4_hold_0 : List UInt8 := dkwX4_hold_0 ++ []
theorem dksX4_hold_0 : cX4_hold.data.toList.drop 0 = dktX4_hold_0 := by decide +kernel
theorem dX4_hold_0 : decode cX4_hold 0 = .ok (.aload_n 0, 1) := dk_42 (dk_at dksX4_hold_0 0 rfl rfl)
theorem dX4_hold_1 : decode cX4_hold 1 = .ok (.getfield 21, 3) := dk_180 0 21 (dk_at dksX4_hold_0 1 rfl rfl)
theorem dX4_hold_4 : decode cX4_hold 4 = .ok (.getfield 48, 3) := dk_180 0 48 (dk_at dksX4_hold_0 4 rfl rfl)
theorem dX4_hold_7 : decode cX4_hold 7 = .ok (.iload_n 1, 1) := dk_27 (dk_at dksX4_hold_0 7 rfl rfl)
theorem dX4_hold_8 : decode cX4_hold 8 = .ok (.aaload, 1) := dk_50 (dk_at dksX4_hold_0 8 rfl rfl)
theorem dX4_hold_9 : decode cX4_hold 9 = .ok (.aload_n 0, 1) := dk_42 (dk_at dksX4_hold_0 9 rfl rfl)
theorem dX4_hold_10 : decode cX4_hold 10 = .ok (.getfield 32, 3) := dk_180 0 32 (dk_at dksX4_hold_0 10 rfl rfl)
theorem dX4_hold_13 : decode cX4_hold 13 = .ok (.invokevirtual 74, 3) := dk_182 0 74 (dk_at dksX4_hold_0 13 rfl rfl)
theorem dX4_hold_16 : decode cX4_hold 16 = .ok (.ireturn, 1) := dk_172 (dk_at dksX4_hold_0 16 rfl rfl)
abbrev cX4_across : ByteArray := prog_7_method_11_code
def yX4_across : MethodName := ⟨RX4, "across", "(I)J"⟩
def dkwX4_across_0 : List UInt8 := [42, 27, 182, 0, 60, 153, 0, 7, 9, 167, 0, 13, 42, 42, 27, 182, 0, 103, 133, 182, 0, 99, 173]
abbrev dktX4_across_0 : List UInt8 := dkwX4_across_0 ++ []
theorem dksX4_across_0 : cX4_across.data.toList.drop 0 = dktX4_across_0 := by decide +kernel
theorem dX4_across_0 : decode cX4_across 0 = .ok (.aload_n 0, 1) := dk_42 (dk_at dksX4_across_0 0 rfl rfl)
theorem dX4_across_1 : decode cX4_across 1 = .ok (.iload_n 1, 1) := dk_27 (dk_at dksX4_across_0 1 rfl rfl)
theorem dX4_across_2 : decode cX4_across 2 = .ok (.invokevirtual 60, 3) := dk_182 0 60 (dk_at dksX4_across_0 2 rfl rfl)
theorem dX4_across_5 : decode cX4_across 5 = .ok (.ifCond .eq 7, 3) := dk_153 0 7 (dk_at dksX4_across_0 5 rfl rfl)
theorem dX4_across_8 : decode cX4_across 8 = .ok (.lconst 0, 1) := dk_9 (dk_at dksX4_across_0 8 rfl rfl)
theorem dX4_across_9 : decode cX4_across 9 = .ok (.goto 13, 3) := dk_167 0 13 (dk_at dksX4_across_0 9 rfl rfl)
theorem dX4_across_12 : decode cX4_across 12 = .ok (.aload_n 0, 1) := dk_42 (dk_at dksX4_across_0 12 rfl rfl)
theorem dX4_across_13 : decode cX4_across 13 = .ok (.aload_n 0, 1) := dk_42 (dk_at dksX4_across_0 13 rfl rfl)
theorem dX4_across_14 : decode cX4_across 14 = .ok (.iload_n 1, 1) := dk_27 (dk_at dksX4_across_0 14 rfl rfl)
theorem dX4_across_15 : decode cX4_across 15 = .ok (.invokevirtual 103, 3) := dk_182 0 103 (dk_at dksX4_across_0 15 rfl rfl)
theorem dX4_across_18 : decode cX4_across 18 = .ok (.i2l, 1) := dk_133 (dk_at dksX4_across_0 18 rfl rfl)
theorem dX4_across_19 : decode cX4_across 19 = .ok (.invokevirtual 99, 3) := dk_182 0 99 (dk_at dksX4_across_0 19 rfl rfl)
theorem dX4_across_22 : decode cX4_across 22 = .ok (.lreturn, 1) := dk_173 (dk_at dksX4_across_0 22 rfl rfl)
abbrev cX4_steps : ByteArray := prog_7_method_9_code
def yX4_steps : MethodName := ⟨RX4, "steps", "(J)J"⟩
def dkwX4_steps_1 : List UInt8 := [167, 255, 237, 33, 173]
abbrev dktX4_steps_1 : List UInt8 := dkwX4_steps_1 ++ []
def dkwX4_steps_0 : List UInt8 := [10, 66, 3, 54, 5, 21, 5, 42, 180, 0, 21, 180, 0, 94, 162, 0, 13, 33, 31, 105, 66, 132, 5, 1]
abbrev dktX4_steps_0 : List UInt8 := dkwX4_steps_0 ++ dktX4_steps_1
theorem dksX4_steps_0 : cX4_steps.data.toList.drop 0 = dktX4_steps_0 := by decide +kernel
theorem dksX4_steps_1 : cX4_steps.data.toList.drop 24 = dktX4_steps_1 := dk_seg dksX4_steps_0 24 rfl rfl
theorem dX4_steps_0 : decode cX4_steps 0 = .ok (.lconst 1, 1) := dk_10 (dk_at dksX4_steps_0 0 rfl rfl)
theorem dX4_steps_1 : decode cX4_steps 1 = .ok (.lstore_n 3, 1) := dk_66 (dk_at dksX4_steps_0 1 rfl rfl)
theorem dX4_steps_2 : decode cX4_steps 2 = .ok (.iconst 0, 1) := dk_3 (dk_at dksX4_steps_0 2 rfl rfl)
theorem dX4_steps_3 : decode cX4_steps 3 = .ok (.istore 5, 2) := dk_54 5 (dk_at dksX4_steps_0 3 rfl rfl)
theorem dX4_steps_5 : decode cX4_steps 5 = .ok (.iload 5, 2) := dk_21 5 (dk_at dksX4_steps_0 5 rfl rfl)
theorem dX4_steps_7 : decode cX4_steps 7 = .ok (.aload_n 0, 1) := dk_42 (dk_at dksX4_steps_0 7 rfl rfl)
theorem dX4_steps_8 : decode cX4_steps 8 = .ok (.getfield 21, 3) := dk_180 0 21 (dk_at dksX4_steps_0 8 rfl rfl)
theorem dX4_steps_11 : decode cX4_steps 11 = .ok (.getfield 94, 3) := dk_180 0 94 (dk_at dksX4_steps_0 11 rfl rfl)
theorem dX4_steps_14 : decode cX4_steps 14 = .ok (.if_icmp .ge 13, 3) := dk_162 0 13 (dk_at dksX4_steps_0 14 rfl rfl)
theorem dX4_steps_17 : decode cX4_steps 17 = .ok (.lload_n 3, 1) := dk_33 (dk_at dksX4_steps_0 17 rfl rfl)
theorem dX4_steps_18 : decode cX4_steps 18 = .ok (.lload_n 1, 1) := dk_31 (dk_at dksX4_steps_0 18 rfl rfl)
theorem dX4_steps_19 : decode cX4_steps 19 = .ok (.lmul, 1) := dk_105 (dk_at dksX4_steps_0 19 rfl rfl)
theorem dX4_steps_20 : decode cX4_steps 20 = .ok (.lstore_n 3, 1) := dk_66 (dk_at dksX4_steps_0 20 rfl rfl)
theorem dX4_steps_21 : decode cX4_steps 21 = .ok (.iinc 5 1, 3) := dk_132 5 1 (dk_at dksX4_steps_0 21 rfl rfl)
theorem dX4_steps_24 : decode cX4_steps 24 = .ok (.goto (-19), 3) := dk_167 255 237 (dk_at dksX4_steps_1 0 rfl rfl)
theorem dX4_steps_27 : decode cX4_steps 27 = .ok (.lload_n 3, 1) := dk_33 (dk_at dksX4_steps_1 3 rfl rfl)
theorem dX4_steps_28 : decode cX4_steps 28 = .ok (.lreturn, 1) := dk_173 (dk_at dksX4_steps_1 4 rfl rfl)
abbrev cX4_of : ByteArray := prog_7_method_10_code
def yX4_of : MethodName := ⟨RX4, "of", "()J"⟩
def dkwX4_of_0 : List UInt8 := [42, 20, 0, 97, 182, 0, 99, 173]
abbrev dktX4_of_0 : List UInt8 := dkwX4_of_0 ++ []
theorem dksX4_of_0 : cX4_of.data.toList.drop 0 = dktX4_of_0 := by decide +kernel
theorem dX4_of_0 : decode cX4_of 0 = .ok (.aload_n 0, 1) := dk_42 (dk_at dksX4_of_0 0 rfl rfl)
theorem dX4_of_1 : decode cX4_of 1 = .ok (.ldc2_w 97, 3) := dk_20 0 97 (dk_at dksX4_of_0 1 rfl rfl)
theorem dX4_of_4 : decode cX4_of 4 = .ok (.invokevirtual 99, 3) := dk_182 0 99 (dk_at dksX4_of_0 4 rfl rfl)
theorem dX4_of_7 : decode cX4_of 7 = .ok (.lreturn, 1) := dk_173 (dk_at dksX4_of_0 7 rfl rfl)
abbrev cX4_own : ByteArray := prog_7_method_8_code
def yX4_own : MethodName := ⟨RX4, "own", "(II)I"⟩
def dkwX4_own_1 : List UInt8 := [180, 0, 21, 180, 0, 48, 27, 50, 42, 27, 182, 0, 82, 42, 180, 0, 18, 28, 46, 182, 0, 91, 172]
abbrev dktX4_own_1 : List UInt8 := dkwX4_own_1 ++ []
def dkwX4_own_0 : List UInt8 := [42, 27, 182, 0, 60, 153, 0, 7, 3, 167, 0, 35, 42, 180, 0, 21, 180, 0, 78, 28, 50, 42]
abbrev dktX4_own_0 : List UInt8 := dkwX4_own_0 ++ dktX4_own_1
theorem dksX4_own_0 : cX4_own.data.toList.drop 0 = dktX4_own_0 := by decide +kernel
theorem dksX4_own_1 : cX4_own.data.toList.drop 22 = dktX4_own_1 := dk_seg dksX4_own_0 22 rfl rfl
theorem dX4_own_0 : decode cX4_own 0 = .ok (.aload_n 0, 1) := dk_42 (dk_at dksX4_own_0 0 rfl rfl)
theorem dX4_own_1 : decode cX4_own 1 = .ok (.iload_n 1, 1) := dk_27 (dk_at dksX4_own_0 1 rfl rfl)
theorem dX4_own_2 : decode cX4_own 2 = .ok (.invokevirtual 60, 3) := dk_182 0 60 (dk_at dksX4_own_0 2 rfl rfl)
theorem dX4_own_5 : decode cX4_own 5 = .ok (.ifCond .eq 7, 3) := dk_153 0 7 (dk_at dksX4_own_0 5 rfl rfl)
theorem dX4_own_8 : decode cX4_own 8 = .ok (.iconst 0, 1) := dk_3 (dk_at dksX4_own_0 8 rfl rfl)
theorem dX4_own_9 : decode cX4_own 9 = .ok (.goto 35, 3) := dk_167 0 35 (dk_at dksX4_own_0 9 rfl rfl)
theorem dX4_own_12 : decode cX4_own 12 = .ok (.aload_n 0, 1) := dk_42 (dk_at dksX4_own_0 12 rfl rfl)
theorem dX4_own_13 : decode cX4_own 13 = .ok (.getfield 21, 3) := dk_180 0 21 (dk_at dksX4_own_0 13 rfl rfl)
theorem dX4_own_16 : decode cX4_own 16 = .ok (.getfield 78, 3) := dk_180 0 78 (dk_at dksX4_own_0 16 rfl rfl)
theorem dX4_own_19 : decode cX4_own 19 = .ok (.iload_n 2, 1) := dk_28 (dk_at dksX4_own_0 19 rfl rfl)
theorem dX4_own_20 : decode cX4_own 20 = .ok (.aaload, 1) := dk_50 (dk_at dksX4_own_0 20 rfl rfl)
theorem dX4_own_21 : decode cX4_own 21 = .ok (.aload_n 0, 1) := dk_42 (dk_at dksX4_own_0 21 rfl rfl)
theorem dX4_own_22 : decode cX4_own 22 = .ok (.getfield 21, 3) := dk_180 0 21 (dk_at dksX4_own_1 0 rfl rfl)
theorem dX4_own_25 : decode cX4_own 25 = .ok (.getfield 48, 3) := dk_180 0 48 (dk_at dksX4_own_1 3 rfl rfl)
theorem dX4_own_28 : decode cX4_own 28 = .ok (.iload_n 1, 1) := dk_27 (dk_at dksX4_own_1 6 rfl rfl)
theorem dX4_own_29 : decode cX4_own 29 = .ok (.aaload, 1) := dk_50 (dk_at dksX4_own_1 7 rfl rfl)
theorem dX4_own_30 : decode cX4_own 30 = .ok (.aload_n 0, 1) := dk_42 (dk_at dksX4_own_1 8 rfl rfl)
theorem dX4_own_31 : decode cX4_own 31 = .ok (.iload_n 1, 1) := dk_27 (dk_at dksX4_own_1 9 rfl rfl)
theorem dX4_own_32 : decode cX4_own 32 = .ok (.invokevirtual 82, 3) := dk_182 0 82 (dk_at dksX4_own_1 10 rfl rfl)
theorem dX4_own_35 : decode cX4_own 35 = .ok (.aload_n 0, 1) := dk_42 (dk_at dksX4_own_1 13 rfl rfl)
theorem dX4_own_36 : decode cX4_own 36 = .ok (.getfield 18, 3) := dk_180 0 18 (dk_at dksX4_own_1 14 rfl rfl)
theorem dX4_own_39 : decode cX4_own 39 = .ok (.iload_n 2, 1) := dk_28 (dk_at dksX4_own_1 17 rfl rfl)
theorem dX4_own_40 : decode cX4_own 40 = .ok (.iaload, 1) := dk_46 (dk_at dksX4_own_1 18 rfl rfl)
theorem dX4_own_41 : decode cX4_own 41 = .ok (.invokevirtual 91, 3) := dk_182 0 91 (dk_at dksX4_own_1 19 rfl rfl)
theorem dX4_own_44 : decode cX4_own 44 = .ok (.ireturn, 1) := dk_172 (dk_at dksX4_own_1 22 rfl rfl)
abbrev cX4_foes : ByteArray := prog_7_method_7_code
def yX4_foes : MethodName := ⟨RX4, "foes", "(II)I"⟩
def dkwX4_foes_1 : List UInt8 := [180, 0, 21, 180, 0, 48, 27, 50, 42, 27, 182, 0, 82, 42, 180, 0, 18, 28, 46, 182, 0, 85, 172]
abbrev dktX4_foes_1 : List UInt8 := dkwX4_foes_1 ++ []
def dkwX4_foes_0 : List UInt8 := [42, 27, 182, 0, 60, 153, 0, 7, 3, 167, 0, 35, 42, 180, 0, 21, 180, 0, 78, 28, 50, 42]
abbrev dktX4_foes_0 : List UInt8 := dkwX4_foes_0 ++ dktX4_foes_1
theorem dksX4_foes_0 : cX4_foes.data.toList.drop 0 = dktX4_foes_0 := by decide +kernel
theorem dksX4_foes_1 : cX4_foes.data.toList.drop 22 = dktX4_foes_1 := dk_seg dksX4_foes_0 22 rfl rfl
theorem dX4_foes_0 : decode cX4_foes 0 = .ok (.aload_n 0, 1) := dk_42 (dk_at dksX4_foes_0 0 rfl rfl)
theorem dX4_foes_1 : decode cX4_foes 1 = .ok (.iload_n 1, 1) := dk_27 (dk_at dksX4_foes_0 1 rfl rfl)
theorem dX4_foes_2 : decode cX4_foes 2 = .ok (.invokevirtual 60, 3) := dk_182 0 60 (dk_at dksX4_foes_0 2 rfl rfl)
theorem dX4_foes_5 : decode cX4_foes 5 = .ok (.ifCond .eq 7, 3) := dk_153 0 7 (dk_at dksX4_foes_0 5 rfl rfl)
theorem dX4_foes_8 : decode cX4_foes 8 = .ok (.iconst 0, 1) := dk_3 (dk_at dksX4_foes_0 8 rfl rfl)
theorem dX4_foes_9 : decode cX4_foes 9 = .ok (.goto 35, 3) := dk_167 0 35 (dk_at dksX4_foes_0 9 rfl rfl)
theorem dX4_foes_12 : decode cX4_foes 12 = .ok (.aload_n 0, 1) := dk_42 (dk_at dksX4_foes_0 12 rfl rfl)
theorem dX4_foes_13 : decode cX4_foes 13 = .ok (.getfield 21, 3) := dk_180 0 21 (dk_at dksX4_foes_0 13 rfl rfl)
theorem dX4_foes_16 : decode cX4_foes 16 = .ok (.getfield 78, 3) := dk_180 0 78 (dk_at dksX4_foes_0 16 rfl rfl)
theorem dX4_foes_19 : decode cX4_foes 19 = .ok (.iload_n 2, 1) := dk_28 (dk_at dksX4_foes_0 19 rfl rfl)
theorem dX4_foes_20 : decode cX4_foes 20 = .ok (.aaload, 1) := dk_50 (dk_at dksX4_foes_0 20 rfl rfl)
theorem dX4_foes_21 : decode cX4_foes 21 = .ok (.aload_n 0, 1) := dk_42 (dk_at dksX4_foes_0 21 rfl rfl)
theorem dX4_foes_22 : decode cX4_foes 22 = .ok (.getfield 21, 3) := dk_180 0 21 (dk_at dksX4_foes_1 0 rfl rfl)
theorem dX4_foes_25 : decode cX4_foes 25 = .ok (.getfield 48, 3) := dk_180 0 48 (dk_at dksX4_foes_1 3 rfl rfl)
theorem dX4_foes_28 : decode cX4_foes 28 = .ok (.iload_n 1, 1) := dk_27 (dk_at dksX4_foes_1 6 rfl rfl)
theorem dX4_foes_29 : decode cX4_foes 29 = .ok (.aaload, 1) := dk_50 (dk_at dksX4_foes_1 7 rfl rfl)
theorem dX4_foes_30 : decode cX4_foes 30 = .ok (.aload_n 0, 1) := dk_42 (dk_at dksX4_foes_1 8 rfl rfl)
theorem dX4_foes_31 : decode cX4_foes 31 = .ok (.iload_n 1, 1) := dk_27 (dk_at dksX4_foes_1 9 rfl rfl)
theorem dX4_foes_32 : decode cX4_foes 32 = .ok (.invokevirtual 82, 3) := dk_182 0 82 (dk_at dksX4_foes_1 10 rfl rfl)
theorem dX4_foes_35 : decode cX4_foes 35 = .ok (.aload_n 0, 1) := dk_42 (dk_at dksX4_foes_1 13 rfl rfl)
theorem dX4_foes_36 : decode cX4_foes 36 = .ok (.getfield 18, 3) := dk_180 0 18 (dk_at dksX4_foes_1 14 rfl rfl)
theorem dX4_foes_39 : decode cX4_foes 39 = .ok (.iload_n 2, 1) := dk_28 (dk_at dksX4_foes_1 17 rfl rfl)
theorem dX4_foes_40 : decode cX4_foes 40 = .ok (.iaload, 1) := dk_46 (dk_at dksX4_foes_1 18 rfl rfl)
theorem dX4_foes_41 : decode cX4_foes 41 = .ok (.invokevirtual 85, 3) := dk_182 0 85 (dk_at dksX4_foes_1 19 rfl rfl)
theorem dX4_foes_44 : decode cX4_foes 44 = .ok (.ireturn, 1) := dk_172 (dk_at dksX4_foes_1 22 rfl rfl)
abbrev cX4_meanOwn : ByteArray := prog_7_method_13_code
def yX4_meanOwn : MethodName := ⟨RX4, "meanOwn", "(II)J"⟩
def dkwX4_meanOwn_1 : List UInt8 := [27, 182, 0, 82, 5, 108, 133, 105, 97, 173]
abbrev dktX4_meanOwn_1 : List UInt8 := dkwX4_meanOwn_1 ++ []
def dkwX4_meanOwn_0 : List UInt8 := [42, 27, 182, 0, 105, 42, 27, 28, 182, 0, 111, 133, 105, 42, 182, 0, 113, 42, 27, 182, 0, 105, 101, 42]
abbrev dktX4_meanOwn_0 : List UInt8 := dkwX4_meanOwn_0 ++ dktX4_meanOwn_1
theorem dksX4_meanOwn_0 : cX4_meanOwn.data.toList.drop 0 = dktX4_meanOwn_0 := by decide +kernel
theorem dksX4_meanOwn_1 : cX4_meanOwn.data.toList.drop 24 = dktX4_meanOwn_1 := dk_seg dksX4_meanOwn_0 24 rfl rfl
theorem dX4_meanOwn_0 : decode cX4_meanOwn 0 = .ok (.aload_n 0, 1) := dk_42 (dk_at dksX4_meanOwn_0 0 rfl rfl)
theorem dX4_meanOwn_1 : decode cX4_meanOwn 1 = .ok (.iload_n 1, 1) := dk_27 (dk_at dksX4_meanOwn_0 1 rfl rfl)
theorem dX4_meanOwn_2 : decode cX4_meanOwn 2 = .ok (.invokevirtual 105, 3) := dk_182 0 105 (dk_at dksX4_meanOwn_0 2 rfl rfl)
theorem dX4_meanOwn_5 : decode cX4_meanOwn 5 = .ok (.aload_n 0, 1) := dk_42 (dk_at dksX4_meanOwn_0 5 rfl rfl)
theorem dX4_meanOwn_6 : decode cX4_meanOwn 6 = .ok (.iload_n 1, 1) := dk_27 (dk_at dksX4_meanOwn_0 6 rfl rfl)
theorem dX4_meanOwn_7 : decode cX4_meanOwn 7 = .ok (.iload_n 2, 1) := dk_28 (dk_at dksX4_meanOwn_0 7 rfl rfl)
theorem dX4_meanOwn_8 : decode cX4_meanOwn 8 = .ok (.invokevirtual 111, 3) := dk_182 0 111 (dk_at dksX4_meanOwn_0 8 rfl rfl)
theorem dX4_meanOwn_11 : decode cX4_meanOwn 11 = .ok (.i2l, 1) := dk_133 (dk_at dksX4_meanOwn_0 11 rfl rfl)
theorem dX4_meanOwn_12 : decode cX4_meanOwn 12 = .ok (.lmul, 1) := dk_105 (dk_at dksX4_meanOwn_0 12 rfl rfl)
theorem dX4_meanOwn_13 : decode cX4_meanOwn 13 = .ok (.aload_n 0, 1) := dk_42 (dk_at dksX4_meanOwn_0 13 rfl rfl)
theorem dX4_meanOwn_14 : decode cX4_meanOwn 14 = .ok (.invokevirtual 113, 3) := dk_182 0 113 (dk_at dksX4_meanOwn_0 14 rfl rfl)
theorem dX4_meanOwn_17 : decode cX4_meanOwn 17 = .ok (.aload_n 0, 1) := dk_42 (dk_at dksX4_meanOwn_0 17 rfl rfl)
theorem dX4_meanOwn_18 : decode cX4_meanOwn 18 = .ok (.iload_n 1, 1) := dk_27 (dk_at dksX4_meanOwn_0 18 rfl rfl)
theorem dX4_meanOwn_19 : decode cX4_meanOwn 19 = .ok (.invokevirtual 105, 3) := dk_182 0 105 (dk_at dksX4_meanOwn_0 19 rfl rfl)
theorem dX4_meanOwn_22 : decode cX4_meanOwn 22 = .ok (.lsub, 1) := dk_101 (dk_at dksX4_meanOwn_0 22 rfl rfl)
theorem dX4_meanOwn_23 : decode cX4_meanOwn 23 = .ok (.aload_n 0, 1) := dk_42 (dk_at dksX4_meanOwn_0 23 rfl rfl)
theorem dX4_meanOwn_24 : decode cX4_meanOwn 24 = .ok (.iload_n 1, 1) := dk_27 (dk_at dksX4_meanOwn_1 0 rfl rfl)
theorem dX4_meanOwn_25 : decode cX4_meanOwn 25 = .ok (.invokevirtual 82, 3) := dk_182 0 82 (dk_at dksX4_meanOwn_1 1 rfl rfl)
theorem dX4_meanOwn_28 : decode cX4_meanOwn 28 = .ok (.iconst 2, 1) := dk_5 (dk_at dksX4_meanOwn_1 4 rfl rfl)
theorem dX4_meanOwn_29 : decode cX4_meanOwn 29 = .ok (.idiv, 1) := dk_108 (dk_at dksX4_meanOwn_1 5 rfl rfl)
theorem dX4_meanOwn_30 : decode cX4_meanOwn 30 = .ok (.i2l, 1) := dk_133 (dk_at dksX4_meanOwn_1 6 rfl rfl)
theorem dX4_meanOwn_31 : decode cX4_meanOwn 31 = .ok (.lmul, 1) := dk_105 (dk_at dksX4_meanOwn_1 7 rfl rfl)
theorem dX4_meanOwn_32 : decode cX4_meanOwn 32 = .ok (.ladd, 1) := dk_97 (dk_at dksX4_meanOwn_1 8 rfl rfl)
theorem dX4_meanOwn_33 : decode cX4_meanOwn 33 = .ok (.lreturn, 1) := dk_173 (dk_at dksX4_meanOwn_1 9 rfl rfl)
abbrev cX4_meanFoes : ByteArray := prog_7_method_12_code
def yX4_meanFoes : MethodName := ⟨RX4, "meanFoes", "(II)J"⟩
def dkwX4_meanFoes_0 : List UInt8 := [42, 27, 182, 0, 105, 42, 27, 28, 182, 0, 109, 133, 105, 173]
abbrev dktX4_meanFoes_0 : List UInt8 := dkwX4_meanFoes_0 ++ []
theorem dksX4_meanFoes_0 : cX4_meanFoes.data.toList.drop 0 = dktX4_meanFoes_0 := by decide +kernel
theorem dX4_meanFoes_0 : decode cX4_meanFoes 0 = .ok (.aload_n 0, 1) := dk_42 (dk_at dksX4_meanFoes_0 0 rfl rfl)
theorem dX4_meanFoes_1 : decode cX4_meanFoes 1 = .ok (.iload_n 1, 1) := dk_27 (dk_at dksX4_meanFoes_0 1 rfl rfl)
theorem dX4_meanFoes_2 : decode cX4_meanFoes 2 = .ok (.invokevirtual 105, 3) := dk_182 0 105 (dk_at dksX4_meanFoes_0 2 rfl rfl)
theorem dX4_meanFoes_5 : decode cX4_meanFoes 5 = .ok (.aload_n 0, 1) := dk_42 (dk_at dksX4_meanFoes_0 5 rfl rfl)
theorem dX4_meanFoes_6 : decode cX4_meanFoes 6 = .ok (.iload_n 1, 1) := dk_27 (dk_at dksX4_meanFoes_0 6 rfl rfl)
theorem dX4_meanFoes_7 : decode cX4_meanFoes 7 = .ok (.iload_n 2, 1) := dk_28 (dk_at dksX4_meanFoes_0 7 rfl rfl)
theorem dX4_meanFoes_8 : decode cX4_meanFoes 8 = .ok (.invokevirtual 109, 3) := dk_182 0 109 (dk_at dksX4_meanFoes_0 8 rfl rfl)
theorem dX4_meanFoes_11 : decode cX4_meanFoes 11 = .ok (.i2l, 1) := dk_133 (dk_at dksX4_meanFoes_0 11 rfl rfl)
theorem dX4_meanFoes_12 : decode cX4_meanFoes 12 = .ok (.lmul, 1) := dk_105 (dk_at dksX4_meanFoes_0 12 rfl rfl)
theorem dX4_meanFoes_13 : decode cX4_meanFoes 13 = .ok (.lreturn, 1) := dk_173 (dk_at dksX4_meanFoes_0 13 rfl rfl)
abbrev cX4_worth : ByteArray := prog_7_method_14_code
def yX4_worth : MethodName := ⟨RX4, "worth", "(II)J"⟩
def dkwX4_worth_0 : List UInt8 := [42, 27, 28, 182, 0, 117, 42, 27, 28, 182, 0, 121, 101, 173]
abbrev dktX4_worth_0 : List UInt8 := dkwX4_worth_0 ++ []
theorem dksX4_worth_0 : cX4_worth.data.toList.drop 0 = dktX4_worth_0 := by decide +kernel
theorem dX4_worth_0 : decode cX4_worth 0 = .ok (.aload_n 0, 1) := dk_42 (dk_at dksX4_worth_0 0 rfl rfl)
theorem dX4_worth_1 : decode cX4_worth 1 = .ok (.iload_n 1, 1) := dk_27 (dk_at dksX4_worth_0 1 rfl rfl)
theorem dX4_worth_2 : decode cX4_worth 2 = .ok (.iload_n 2, 1) := dk_28 (dk_at dksX4_worth_0 2 rfl rfl)
theorem dX4_worth_3 : decode cX4_worth 3 = .ok (.invokevirtual 117, 3) := dk_182 0 117 (dk_at dksX4_worth_0 3 rfl rfl)
theorem dX4_worth_6 : decode cX4_worth 6 = .ok (.aload_n 0, 1) := dk_42 (dk_at dksX4_worth_0 6 rfl rfl)
theorem dX4_worth_7 : decode cX4_worth 7 = .ok (.iload_n 1, 1) := dk_27 (dk_at dksX4_worth_0 7 rfl rfl)
theorem dX4_worth_8 : decode cX4_worth 8 = .ok (.iload_n 2, 1) := dk_28 (dk_at dksX4_worth_0 8 rfl rfl)
theorem dX4_worth_9 : decode cX4_worth 9 = .ok (.invokevirtual 121, 3) := dk_182 0 121 (dk_at dksX4_worth_0 9 rfl rfl)
theorem dX4_worth_12 : decode cX4_worth 12 = .ok (.lsub, 1) := dk_101 (dk_at dksX4_worth_0 12 rfl rfl)
theorem dX4_worth_13 : decode cX4_worth 13 = .ok (.lreturn, 1) := dk_173 (dk_at dksX4_worth_0 13 rfl rfl)
abbrev cX4_become : ByteArray := prog_7_method_3_code
def yX4_become : MethodName := ⟨RX4, "become", "(LElephantLine$Front;)V"⟩
def dkwX4_become_3 : List UInt8 := [16, 6, 184, 0, 39, 177]
abbrev dktX4_become_3 : List UInt8 := dkwX4_become_3 ++ []
def dkwX4_become_2 : List UInt8 := [180, 0, 15, 3, 42, 180, 0, 15, 3, 8, 184, 0, 39, 43, 180, 0, 18, 3, 42, 180, 0, 18, 3]
abbrev dktX4_become_2 : List UInt8 := dkwX4_become_2 ++ dktX4_become_3
def dkwX4_become_1 : List UInt8 := [42, 43, 180, 0, 32, 181, 0, 32, 43, 180, 0, 9, 3, 42, 180, 0, 9, 3, 8, 184, 0, 39, 43]
abbrev dktX4_become_1 : List UInt8 := dkwX4_become_1 ++ dktX4_become_2
def dkwX4_become_0 : List UInt8 := [42, 43, 180, 0, 21, 181, 0, 21, 42, 43, 180, 0, 25, 181, 0, 25, 42, 43, 180, 0, 29, 181, 0, 29]
abbrev dktX4_become_0 : List UInt8 := dkwX4_become_0 ++ dktX4_become_1
theorem dksX4_become_0 : cX4_become.data.toList.drop 0 = dktX4_become_0 := by decide +kernel
theorem dksX4_become_1 : cX4_become.data.toList.drop 24 = dktX4_become_1 := dk_seg dksX4_become_0 24 rfl rfl
theorem dksX4_become_2 : cX4_become.data.toList.drop 47 = dktX4_become_2 := dk_seg dksX4_become_1 23 rfl rfl
theorem dksX4_become_3 : cX4_become.data.toList.drop 70 = dktX4_become_3 := dk_seg dksX4_become_2 23 rfl rfl
theorem dX4_become_0 : decode cX4_become 0 = .ok (.aload_n 0, 1) := dk_42 (dk_at dksX4_become_0 0 rfl rfl)
theorem dX4_become_1 : decode cX4_become 1 = .ok (.aload_n 1, 1) := dk_43 (dk_at dksX4_become_0 1 rfl rfl)
theorem dX4_become_2 : decode cX4_become 2 = .ok (.getfield 21, 3) := dk_180 0 21 (dk_at dksX4_become_0 2 rfl rfl)
theorem dX4_become_5 : decode cX4_become 5 = .ok (.putfield 21, 3) := dk_181 0 21 (dk_at dksX4_become_0 5 rfl rfl)
theorem dX4_become_8 : decode cX4_become 8 = .ok (.aload_n 0, 1) := dk_42 (dk_at dksX4_become_0 8 rfl rfl)
theorem dX4_become_9 : decode cX4_become 9 = .ok (.aload_n 1, 1) := dk_43 (dk_at dksX4_become_0 9 rfl rfl)
theorem dX4_become_10 : decode cX4_become 10 = .ok (.getfield 25, 3) := dk_180 0 25 (dk_at dksX4_become_0 10 rfl rfl)
theorem dX4_become_13 : decode cX4_become 13 = .ok (.putfield 25, 3) := dk_181 0 25 (dk_at dksX4_become_0 13 rfl rfl)
theorem dX4_become_16 : decode cX4_become 16 = .ok (.aload_n 0, 1) := dk_42 (dk_at dksX4_become_0 16 rfl rfl)
theorem dX4_become_17 : decode cX4_become 17 = .ok (.aload_n 1, 1) := dk_43 (dk_at dksX4_become_0 17 rfl rfl)
theorem dX4_become_18 : decode cX4_become 18 = .ok (.getfield 29, 3) := dk_180 0 29 (dk_at dksX4_become_0 18 rfl rfl)
theorem dX4_become_21 : decode cX4_become 21 = .ok (.putfield 29, 3) := dk_181 0 29 (dk_at dksX4_become_0 21 rfl rfl)
theorem dX4_become_24 : decode cX4_become 24 = .ok (.aload_n 0, 1) := dk_42 (dk_at dksX4_become_1 0 rfl rfl)
theorem dX4_become_25 : decode cX4_become 25 = .ok (.aload_n 1, 1) := dk_43 (dk_at dksX4_become_1 1 rfl rfl)
theorem dX4_become_26 : decode cX4_become 26 = .ok (.getfield 32, 3) := dk_180 0 32 (dk_at dksX4_become_1 2 rfl rfl)
theorem dX4_become_29 : decode cX4_become 29 = .ok (.putfield 32, 3) := dk_181 0 32 (dk_at dksX4_become_1 5 rfl rfl)
theorem dX4_become_32 : decode cX4_become 32 = .ok (.aload_n 1, 1) := dk_43 (dk_at dksX4_become_1 8 rfl rfl)
theorem dX4_become_33 : decode cX4_become 33 = .ok (.getfield 9, 3) := dk_180 0 9 (dk_at dksX4_become_1 9 rfl rfl)
theorem dX4_become_36 : decode cX4_become 36 = .ok (.iconst 0, 1) := dk_3 (dk_at dksX4_become_1 12 rfl rfl)
theorem dX4_become_37 : decode cX4_become 37 = .ok (.aload_n 0, 1) := dk_42 (dk_at dksX4_become_1 13 rfl rfl)
theorem dX4_become_38 : decode cX4_become 38 = .ok (.getfield 9, 3) := dk_180 0 9 (dk_at dksX4_become_1 14 rfl rfl)
theorem dX4_become_41 : decode cX4_become 41 = .ok (.iconst 0, 1) := dk_3 (dk_at dksX4_become_1 17 rfl rfl)
theorem dX4_become_42 : decode cX4_become 42 = .ok (.iconst 5, 1) := dk_8 (dk_at dksX4_become_1 18 rfl rfl)
theorem dX4_become_43 : decode cX4_become 43 = .ok (.invokestatic 39, 3) := dk_184 0 39 (dk_at dksX4_become_1 19 rfl rfl)
theorem dX4_become_46 : decode cX4_become 46 = .ok (.aload_n 1, 1) := dk_43 (dk_at dksX4_become_1 22 rfl rfl)
theorem dX4_become_47 : decode cX4_become 47 = .ok (.getfield 15, 3) := dk_180 0 15 (dk_at dksX4_become_2 0 rfl rfl)
theorem dX4_become_50 : decode cX4_become 50 = .ok (.iconst 0, 1) := dk_3 (dk_at dksX4_become_2 3 rfl rfl)
theorem dX4_become_51 : decode cX4_become 51 = .ok (.aload_n 0, 1) := dk_42 (dk_at dksX4_become_2 4 rfl rfl)
theorem dX4_become_52 : decode cX4_become 52 = .ok (.getfield 15, 3) := dk_180 0 15 (dk_at dksX4_become_2 5 rfl rfl)
theorem dX4_become_55 : decode cX4_become 55 = .ok (.iconst 0, 1) := dk_3 (dk_at dksX4_become_2 8 rfl rfl)
theorem dX4_become_56 : decode cX4_become 56 = .ok (.iconst 5, 1) := dk_8 (dk_at dksX4_become_2 9 rfl rfl)
theorem dX4_become_57 : decode cX4_become 57 = .ok (.invokestatic 39, 3) := dk_184 0 39 (dk_at dksX4_become_2 10 rfl rfl)
theorem dX4_become_60 : decode cX4_become 60 = .ok (.aload_n 1, 1) := dk_43 (dk_at dksX4_become_2 13 rfl rfl)
theorem dX4_become_61 : decode cX4_become 61 = .ok (.getfield 18, 3) := dk_180 0 18 (dk_at dksX4_become_2 14 rfl rfl)
theorem dX4_become_64 : decode cX4_become 64 = .ok (.iconst 0, 1) := dk_3 (dk_at dksX4_become_2 17 rfl rfl)
theorem dX4_become_65 : decode cX4_become 65 = .ok (.aload_n 0, 1) := dk_42 (dk_at dksX4_become_2 18 rfl rfl)
theorem dX4_become_66 : decode cX4_become 66 = .ok (.getfield 18, 3) := dk_180 0 18 (dk_at dksX4_become_2 19 rfl rfl)
theorem dX4_become_69 : decode cX4_become 69 = .ok (.iconst 0, 1) := dk_3 (dk_at dksX4_become_2 22 rfl rfl)
theorem dX4_become_70 : decode cX4_become 70 = .ok (.bipush 6, 2) := dk_16 6 (dk_at dksX4_become_3 0 rfl rfl)
theorem dX4_become_72 : decode cX4_become 72 = .ok (.invokestatic 39, 3) := dk_184 0 39 (dk_at dksX4_become_3 2 rfl rfl)
theorem dX4_become_75 : decode cX4_become 75 = .ok (.return_, 1) := dk_177 (dk_at dksX4_become_3 5 rfl rfl)
abbrev cX4_worthBy : ByteArray := prog_7_method_15_code
def yX4_worthBy : MethodName := ⟨RX4, "worthBy", "(III)J"⟩
def dkwX4_worthBy_1 : List UInt8 := [105, 167, 0, 9, 42, 27, 28, 182, 0, 124, 173]
abbrev dktX4_worthBy_1 : List UInt8 := dkwX4_worthBy_1 ++ []
def dkwX4_worthBy_0 : List UInt8 := [28, 29, 160, 0, 26, 42, 182, 0, 113, 42, 27, 182, 0, 105, 101, 117, 42, 27, 182, 0, 82, 5, 108, 133]
abbrev dktX4_worthBy_0 : List UInt8 := dkwX4_worthBy_0 ++ dktX4_worthBy_1
theorem dksX4_worthBy_0 : cX4_worthBy.data.toList.drop 0 = dktX4_worthBy_0 := by decide +kernel
theorem dksX4_worthBy_1 : cX4_worthBy.data.toList.drop 24 = dktX4_worthBy_1 := dk_seg dksX4_worthBy_0 24 rfl rfl
theorem dX4_worthBy_0 : decode cX4_worthBy 0 = .ok (.iload_n 2, 1) := dk_28 (dk_at dksX4_worthBy_0 0 rfl rfl)
theorem dX4_worthBy_1 : decode cX4_worthBy 1 = .ok (.iload_n 3, 1) := dk_29 (dk_at dksX4_worthBy_0 1 rfl rfl)
theorem dX4_worthBy_2 : decode cX4_worthBy 2 = .ok (.if_icmp .ne 26, 3) := dk_160 0 26 (dk_at dksX4_worthBy_0 2 rfl rfl)
theorem dX4_worthBy_5 : decode cX4_worthBy 5 = .ok (.aload_n 0, 1) := dk_42 (dk_at dksX4_worthBy_0 5 rfl rfl)
theorem dX4_worthBy_6 : decode cX4_worthBy 6 = .ok (.invokevirtual 113, 3) := dk_182 0 113 (dk_at dksX4_worthBy_0 6 rfl rfl)
theorem dX4_worthBy_9 : decode cX4_worthBy 9 = .ok (.aload_n 0, 1) := dk_42 (dk_at dksX4_worthBy_0 9 rfl rfl)
theorem dX4_worthBy_10 : decode cX4_worthBy 10 = .ok (.iload_n 1, 1) := dk_27 (dk_at dksX4_worthBy_0 10 rfl rfl)
theorem dX4_worthBy_11 : decode cX4_worthBy 11 = .ok (.invokevirtual 105, 3) := dk_182 0 105 (dk_at dksX4_worthBy_0 11 rfl rfl)
theorem dX4_worthBy_14 : decode cX4_worthBy 14 = .ok (.lsub, 1) := dk_101 (dk_at dksX4_worthBy_0 14 rfl rfl)
theorem dX4_worthBy_15 : decode cX4_worthBy 15 = .ok (.lneg, 1) := dk_117 (dk_at dksX4_worthBy_0 15 rfl rfl)
theorem dX4_worthBy_16 : decode cX4_worthBy 16 = .ok (.aload_n 0, 1) := dk_42 (dk_at dksX4_worthBy_0 16 rfl rfl)
theorem dX4_worthBy_17 : decode cX4_worthBy 17 = .ok (.iload_n 1, 1) := dk_27 (dk_at dksX4_worthBy_0 17 rfl rfl)
theorem dX4_worthBy_18 : decode cX4_worthBy 18 = .ok (.invokevirtual 82, 3) := dk_182 0 82 (dk_at dksX4_worthBy_0 18 rfl rfl)
theorem dX4_worthBy_21 : decode cX4_worthBy 21 = .ok (.iconst 2, 1) := dk_5 (dk_at dksX4_worthBy_0 21 rfl rfl)
theorem dX4_worthBy_22 : decode cX4_worthBy 22 = .ok (.idiv, 1) := dk_108 (dk_at dksX4_worthBy_0 22 rfl rfl)
theorem dX4_worthBy_23 : decode cX4_worthBy 23 = .ok (.i2l, 1) := dk_133 (dk_at dksX4_worthBy_0 23 rfl rfl)
theorem dX4_worthBy_24 : decode cX4_worthBy 24 = .ok (.lmul, 1) := dk_105 (dk_at dksX4_worthBy_1 0 rfl rfl)
theorem dX4_worthBy_25 : decode cX4_worthBy 25 = .ok (.goto 9, 3) := dk_167 0 9 (dk_at dksX4_worthBy_1 1 rfl rfl)
theorem dX4_worthBy_28 : decode cX4_worthBy 28 = .ok (.aload_n 0, 1) := dk_42 (dk_at dksX4_worthBy_1 4 rfl rfl)
theorem dX4_worthBy_29 : decode cX4_worthBy 29 = .ok (.iload_n 1, 1) := dk_27 (dk_at dksX4_worthBy_1 5 rfl rfl)
theorem dX4_worthBy_30 : decode cX4_worthBy 30 = .ok (.iload_n 2, 1) := dk_28 (dk_at dksX4_worthBy_1 6 rfl rfl)
theorem dX4_worthBy_31 : decode cX4_worthBy 31 = .ok (.invokevirtual 124, 3) := dk_182 0 124 (dk_at dksX4_worthBy_1 7 rfl rfl)
theorem dX4_worthBy_34 : decode cX4_worthBy 34 = .ok (.lreturn, 1) := dk_173 (dk_at dksX4_worthBy_1 10 rfl rfl)
abbrev cX4_turnedBy : ByteArray := prog_7_method_18_code
def yX4_turnedBy : MethodName := ⟨RX4, "turnedBy", "(I)I"⟩
def dkwX4_turnedBy_4 : List UInt8 := [167, 255, 178, 132, 3, 1, 167, 255, 158, 28, 172]
abbrev dktX4_turnedBy_4 : List UInt8 := dkwX4_turnedBy_4 ++ []
def dkwX4_turnedBy_3 : List UInt8 := [42, 180, 0, 9, 21, 4, 46, 100, 184, 0, 140, 4, 163, 0, 9, 28, 4, 29, 120, 128, 61, 132, 4, 1]
abbrev dktX4_turnedBy_3 : List UInt8 := dkwX4_turnedBy_3 ++ dktX4_turnedBy_4
def dkwX4_turnedBy_2 : List UInt8 := [42, 29, 182, 0, 60, 154, 0, 40, 42, 29, 182, 0, 103, 16, 50, 162, 0, 30, 42, 180, 0, 9, 29, 46]
abbrev dktX4_turnedBy_2 : List UInt8 := dkwX4_turnedBy_2 ++ dktX4_turnedBy_3
def dkwX4_turnedBy_1 : List UInt8 := [180, 0, 45, 162, 0, 72, 27, 21, 4, 184, 0, 56, 153, 0, 57, 42, 21, 4, 182, 0, 60, 154, 0, 48]
abbrev dktX4_turnedBy_1 : List UInt8 := dkwX4_turnedBy_1 ++ dktX4_turnedBy_2
def dkwX4_turnedBy_0 : List UInt8 := [3, 61, 3, 62, 29, 42, 180, 0, 21, 180, 0, 45, 162, 0, 93, 3, 54, 4, 21, 4, 42, 180, 0, 21]
abbrev dktX4_turnedBy_0 : List UInt8 := dkwX4_turnedBy_0 ++ dktX4_turnedBy_1
theorem dksX4_turnedBy_0 : cX4_turnedBy.data.toList.drop 0 = dktX4_turnedBy_0 := by decide +kernel
theorem dksX4_turnedBy_1 : cX4_turnedBy.data.toList.drop 24 = dktX4_turnedBy_1 := dk_seg dksX4_turnedBy_0 24 rfl rfl
theorem dksX4_turnedBy_2 : cX4_turnedBy.data.toList.drop 48 = dktX4_turnedBy_2 := dk_seg dksX4_turnedBy_1 24 rfl rfl
theorem dksX4_turnedBy_3 : cX4_turnedBy.data.toList.drop 72 = dktX4_turnedBy_3 := dk_seg dksX4_turnedBy_2 24 rfl rfl
theorem dksX4_turnedBy_4 : cX4_turnedBy.data.toList.drop 96 = dktX4_turnedBy_4 := dk_seg dksX4_turnedBy_3 24 rfl rfl
theorem dX4_turnedBy_0 : decode cX4_turnedBy 0 = .ok (.iconst 0, 1) := dk_3 (dk_at dksX4_turnedBy_0 0 rfl rfl)
theorem dX4_turnedBy_1 : decode cX4_turnedBy 1 = .ok (.istore_n 2, 1) := dk_61 (dk_at dksX4_turnedBy_0 1 rfl rfl)
theorem dX4_turnedBy_2 : decode cX4_turnedBy 2 = .ok (.iconst 0, 1) := dk_3 (dk_at dksX4_turnedBy_0 2 rfl rfl)
theorem dX4_turnedBy_3 : decode cX4_turnedBy 3 = .ok (.istore_n 3, 1) := dk_62 (dk_at dksX4_turnedBy_0 3 rfl rfl)
theorem dX4_turnedBy_4 : decode cX4_turnedBy 4 = .ok (.iload_n 3, 1) := dk_29 (dk_at dksX4_turnedBy_0 4 rfl rfl)
theorem dX4_turnedBy_5 : decode cX4_turnedBy 5 = .ok (.aload_n 0, 1) := dk_42 (dk_at dksX4_turnedBy_0 5 rfl rfl)
theorem dX4_turnedBy_6 : decode cX4_turnedBy 6 = .ok (.getfield 21, 3) := dk_180 0 21 (dk_at dksX4_turnedBy_0 6 rfl rfl)
theorem dX4_turnedBy_9 : decode cX4_turnedBy 9 = .ok (.getfield 45, 3) := dk_180 0 45 (dk_at dksX4_turnedBy_0 9 rfl rfl)
theorem dX4_turnedBy_12 : decode cX4_turnedBy 12 = .ok (.if_icmp .ge 93, 3) := dk_162 0 93 (dk_at dksX4_turnedBy_0 12 rfl rfl)
theorem dX4_turnedBy_15 : decode cX4_turnedBy 15 = .ok (.iconst 0, 1) := dk_3 (dk_at dksX4_turnedBy_0 15 rfl rfl)
theorem dX4_turnedBy_16 : decode cX4_turnedBy 16 = .ok (.istore 4, 2) := dk_54 4 (dk_at dksX4_turnedBy_0 16 rfl rfl)
theorem dX4_turnedBy_18 : decode cX4_turnedBy 18 = .ok (.iload 4, 2) := dk_21 4 (dk_at dksX4_turnedBy_0 18 rfl rfl)
theorem dX4_turnedBy_20 : decode cX4_turnedBy 20 = .ok (.aload_n 0, 1) := dk_42 (dk_at dksX4_turnedBy_0 20 rfl rfl)
theorem dX4_turnedBy_21 : decode cX4_turnedBy 21 = .ok (.getfield 21, 3) := dk_180 0 21 (dk_at dksX4_turnedBy_0 21 rfl rfl)
theorem dX4_turnedBy_24 : decode cX4_turnedBy 24 = .ok (.getfield 45, 3) := dk_180 0 45 (dk_at dksX4_turnedBy_1 0 rfl rfl)
theorem dX4_turnedBy_27 : decode cX4_turnedBy 27 = .ok (.if_icmp .ge 72, 3) := dk_162 0 72 (dk_at dksX4_turnedBy_1 3 rfl rfl)
theorem dX4_turnedBy_30 : decode cX4_turnedBy 30 = .ok (.iload_n 1, 1) := dk_27 (dk_at dksX4_turnedBy_1 6 rfl rfl)
theorem dX4_turnedBy_31 : decode cX4_turnedBy 31 = .ok (.iload 4, 2) := dk_21 4 (dk_at dksX4_turnedBy_1 7 rfl rfl)
theorem dX4_turnedBy_33 : decode cX4_turnedBy 33 = .ok (.invokestatic 56, 3) := dk_184 0 56 (dk_at dksX4_turnedBy_1 9 rfl rfl)
theorem dX4_turnedBy_36 : decode cX4_turnedBy 36 = .ok (.ifCond .eq 57, 3) := dk_153 0 57 (dk_at dksX4_turnedBy_1 12 rfl rfl)
theorem dX4_turnedBy_39 : decode cX4_turnedBy 39 = .ok (.aload_n 0, 1) := dk_42 (dk_at dksX4_turnedBy_1 15 rfl rfl)
theorem dX4_turnedBy_40 : decode cX4_turnedBy 40 = .ok (.iload 4, 2) := dk_21 4 (dk_at dksX4_turnedBy_1 16 rfl rfl)
theorem dX4_turnedBy_42 : decode cX4_turnedBy 42 = .ok (.invokevirtual 60, 3) := dk_182 0 60 (dk_at dksX4_turnedBy_1 18 rfl rfl)
theorem dX4_turnedBy_45 : decode cX4_turnedBy 45 = .ok (.ifCond .ne 48, 3) := dk_154 0 48 (dk_at dksX4_turnedBy_1 21 rfl rfl)
theorem dX4_turnedBy_48 : decode cX4_turnedBy 48 = .ok (.aload_n 0, 1) := dk_42 (dk_at dksX4_turnedBy_2 0 rfl rfl)
theorem dX4_turnedBy_49 : decode cX4_turnedBy 49 = .ok (.iload_n 3, 1) := dk_29 (dk_at dksX4_turnedBy_2 1 rfl rfl)
theorem dX4_turnedBy_50 : decode cX4_turnedBy 50 = .ok (.invokevirtual 60, 3) := dk_182 0 60 (dk_at dksX4_turnedBy_2 2 rfl rfl)
theorem dX4_turnedBy_53 : decode cX4_turnedBy 53 = .ok (.ifCond .ne 40, 3) := dk_154 0 40 (dk_at dksX4_turnedBy_2 5 rfl rfl)
theorem dX4_turnedBy_56 : decode cX4_turnedBy 56 = .ok (.aload_n 0, 1) := dk_42 (dk_at dksX4_turnedBy_2 8 rfl rfl)
theorem dX4_turnedBy_57 : decode cX4_turnedBy 57 = .ok (.iload_n 3, 1) := dk_29 (dk_at dksX4_turnedBy_2 9 rfl rfl)
theorem dX4_turnedBy_58 : decode cX4_turnedBy 58 = .ok (.invokevirtual 103, 3) := dk_182 0 103 (dk_at dksX4_turnedBy_2 10 rfl rfl)
theorem dX4_turnedBy_61 : decode cX4_turnedBy 61 = .ok (.bipush 50, 2) := dk_16 50 (dk_at dksX4_turnedBy_2 13 rfl rfl)
theorem dX4_turnedBy_63 : decode cX4_turnedBy 63 = .ok (.if_icmp .ge 30, 3) := dk_162 0 30 (dk_at dksX4_turnedBy_2 15 rfl rfl)
theorem dX4_turnedBy_66 : decode cX4_turnedBy 66 = .ok (.aload_n 0, 1) := dk_42 (dk_at dksX4_turnedBy_2 18 rfl rfl)
theorem dX4_turnedBy_67 : decode cX4_turnedBy 67 = .ok (.getfield 9, 3) := dk_180 0 9 (dk_at dksX4_turnedBy_2 19 rfl rfl)
theorem dX4_turnedBy_70 : decode cX4_turnedBy 70 = .ok (.iload_n 3, 1) := dk_29 (dk_at dksX4_turnedBy_2 22 rfl rfl)
theorem dX4_turnedBy_71 : decode cX4_turnedBy 71 = .ok (.iaload, 1) := dk_46 (dk_at dksX4_turnedBy_2 23 rfl rfl)
theorem dX4_turnedBy_72 : decode cX4_turnedBy 72 = .ok (.aload_n 0, 1) := dk_42 (dk_at dksX4_turnedBy_3 0 rfl rfl)
theorem dX4_turnedBy_73 : decode cX4_turnedBy 73 = .ok (.getfield 9, 3) := dk_180 0 9 (dk_at dksX4_turnedBy_3 1 rfl rfl)
theorem dX4_turnedBy_76 : decode cX4_turnedBy 76 = .ok (.iload 4, 2) := dk_21 4 (dk_at dksX4_turnedBy_3 4 rfl rfl)
theorem dX4_turnedBy_78 : decode cX4_turnedBy 78 = .ok (.iaload, 1) := dk_46 (dk_at dksX4_turnedBy_3 6 rfl rfl)
theorem dX4_turnedBy_79 : decode cX4_turnedBy 79 = .ok (.isub, 1) := dk_100 (dk_at dksX4_turnedBy_3 7 rfl rfl)
theorem dX4_turnedBy_80 : decode cX4_turnedBy 80 = .ok (.invokestatic 140, 3) := dk_184 0 140 (dk_at dksX4_turnedBy_3 8 rfl rfl)
theorem dX4_turnedBy_83 : decode cX4_turnedBy 83 = .ok (.iconst 1, 1) := dk_4 (dk_at dksX4_turnedBy_3 11 rfl rfl)
theorem dX4_turnedBy_84 : decode cX4_turnedBy 84 = .ok (.if_icmp .gt 9, 3) := dk_163 0 9 (dk_at dksX4_turnedBy_3 12 rfl rfl)
theorem dX4_turnedBy_87 : decode cX4_turnedBy 87 = .ok (.iload_n 2, 1) := dk_28 (dk_at dksX4_turnedBy_3 15 rfl rfl)
theorem dX4_turnedBy_88 : decode cX4_turnedBy 88 = .ok (.iconst 1, 1) := dk_4 (dk_at dksX4_turnedBy_3 16 rfl rfl)
theorem dX4_turnedBy_89 : decode cX4_turnedBy 89 = .ok (.iload_n 3, 1) := dk_29 (dk_at dksX4_turnedBy_3 17 rfl rfl)
theorem dX4_turnedBy_90 : decode cX4_turnedBy 90 = .ok (.ishl, 1) := dk_120 (dk_at dksX4_turnedBy_3 18 rfl rfl)
theorem dX4_turnedBy_91 : decode cX4_turnedBy 91 = .ok (.ior, 1) := dk_128 (dk_at dksX4_turnedBy_3 19 rfl rfl)
theorem dX4_turnedBy_92 : decode cX4_turnedBy 92 = .ok (.istore_n 2, 1) := dk_61 (dk_at dksX4_turnedBy_3 20 rfl rfl)
theorem dX4_turnedBy_93 : decode cX4_turnedBy 93 = .ok (.iinc 4 1, 3) := dk_132 4 1 (dk_at dksX4_turnedBy_3 21 rfl rfl)
theorem dX4_turnedBy_96 : decode cX4_turnedBy 96 = .ok (.goto (-78), 3) := dk_167 255 178 (dk_at dksX4_turnedBy_4 0 rfl rfl)
theorem dX4_turnedBy_99 : decode cX4_turnedBy 99 = .ok (.iinc 3 1, 3) := dk_132 3 1 (dk_at dksX4_turnedBy_4 3 rfl rfl)
theorem dX4_turnedBy_102 : decode cX4_turnedBy 102 = .ok (.goto (-98), 3) := dk_167 255 158 (dk_at dksX4_turnedBy_4 6 rfl rfl)
theorem dX4_turnedBy_105 : decode cX4_turnedBy 105 = .ok (.iload_n 2, 1) := dk_28 (dk_at dksX4_turnedBy_4 9 rfl rfl)
theorem dX4_turnedBy_106 : decode cX4_turnedBy 106 = .ok (.ireturn, 1) := dk_172 (dk_at dksX4_turnedBy_4 10 rfl rfl)
abbrev cX4_fights : ByteArray := prog_7_method_17_code
def yX4_fights : MethodName := ⟨RX4, "fights", "()V"⟩
def dkwX4_fights_6 : List UInt8 := [182, 0, 137, 79, 132, 1, 1, 167, 255, 128, 177]
abbrev dktX4_fights_6 : List UInt8 := dkwX4_fights_6 ++ []
def dkwX4_fights_5 : List UInt8 := [181, 0, 130, 42, 180, 0, 18, 28, 42, 180, 0, 21, 180, 0, 78, 28, 50, 42, 180, 0, 18, 28, 46, 29]
abbrev dktX4_fights_5 : List UInt8 := dkwX4_fights_5 ++ dktX4_fights_6
def dkwX4_fights_4 : List UInt8 := [42, 89, 180, 0, 128, 29, 96, 181, 0, 128, 42, 89, 180, 0, 130, 42, 27, 28, 182, 0, 111, 96]
abbrev dktX4_fights_4 : List UInt8 := dkwX4_fights_4 ++ dktX4_fights_5
def dkwX4_fights_3 : List UInt8 := [180, 0, 132, 4, 27, 120, 128, 181, 0, 132, 42, 180, 0, 9, 27, 46, 61, 42, 27, 28, 182, 0, 109, 62]
abbrev dktX4_fights_3 : List UInt8 := dkwX4_fights_3 ++ dktX4_fights_4
def dkwX4_fights_2 : List UInt8 := [154, 0, 22, 42, 89, 180, 0, 130, 42, 27, 182, 0, 82, 5, 108, 96, 181, 0, 130, 167, 0, 79, 42, 89]
abbrev dktX4_fights_2 : List UInt8 := dkwX4_fights_2 ++ dktX4_fights_3
def dkwX4_fights_1 : List UInt8 := [180, 0, 45, 162, 0, 123, 42, 27, 182, 0, 60, 153, 0, 6, 167, 0, 106, 42, 27, 182, 0, 134]
abbrev dktX4_fights_1 : List UInt8 := dkwX4_fights_1 ++ dktX4_fights_2
def dkwX4_fights_0 : List UInt8 := [42, 3, 181, 0, 128, 42, 3, 181, 0, 130, 42, 3, 181, 0, 132, 3, 60, 27, 42, 180, 0, 21]
abbrev dktX4_fights_0 : List UInt8 := dkwX4_fights_0 ++ dktX4_fights_1
theorem dksX4_fights_0 : cX4_fights.data.toList.drop 0 = dktX4_fights_0 := by decide +kernel
theorem dksX4_fights_1 : cX4_fights.data.toList.drop 22 = dktX4_fights_1 := dk_seg dksX4_fights_0 22 rfl rfl
theorem dksX4_fights_2 : cX4_fights.data.toList.drop 44 = dktX4_fights_2 := dk_seg dksX4_fights_1 22 rfl rfl
theorem dksX4_fights_3 : cX4_fights.data.toList.drop 68 = dktX4_fights_3 := dk_seg dksX4_fights_2 24 rfl rfl
theorem dksX4_fights_4 : cX4_fights.data.toList.drop 92 = dktX4_fights_4 := dk_seg dksX4_fights_3 24 rfl rfl
theorem dksX4_fights_5 : cX4_fights.data.toList.drop 114 = dktX4_fights_5 := dk_seg dksX4_fights_4 22 rfl rfl
theorem dksX4_fights_6 : cX4_fights.data.toList.drop 138 = dktX4_fights_6 := dk_seg dksX4_fights_5 24 rfl rfl
theorem dX4_fights_0 : decode cX4_fights 0 = .ok (.aload_n 0, 1) := dk_42 (dk_at dksX4_fights_0 0 rfl rfl)
theorem dX4_fights_1 : decode cX4_fights 1 = .ok (.iconst 0, 1) := dk_3 (dk_at dksX4_fights_0 1 rfl rfl)
theorem dX4_fights_2 : decode cX4_fights 2 = .ok (.putfield 128, 3) := dk_181 0 128 (dk_at dksX4_fights_0 2 rfl rfl)
theorem dX4_fights_5 : decode cX4_fights 5 = .ok (.aload_n 0, 1) := dk_42 (dk_at dksX4_fights_0 5 rfl rfl)
theorem dX4_fights_6 : decode cX4_fights 6 = .ok (.iconst 0, 1) := dk_3 (dk_at dksX4_fights_0 6 rfl rfl)
theorem dX4_fights_7 : decode cX4_fights 7 = .ok (.putfield 130, 3) := dk_181 0 130 (dk_at dksX4_fights_0 7 rfl rfl)
theorem dX4_fights_10 : decode cX4_fights 10 = .ok (.aload_n 0, 1) := dk_42 (dk_at dksX4_fights_0 10 rfl rfl)
theorem dX4_fights_11 : decode cX4_fights 11 = .ok (.iconst 0, 1) := dk_3 (dk_at dksX4_fights_0 11 rfl rfl)
theorem dX4_fights_12 : decode cX4_fights 12 = .ok (.putfield 132, 3) := dk_181 0 132 (dk_at dksX4_fights_0 12 rfl rfl)
theorem dX4_fights_15 : decode cX4_fights 15 = .ok (.iconst 0, 1) := dk_3 (dk_at dksX4_fights_0 15 rfl rfl)
theorem dX4_fights_16 : decode cX4_fights 16 = .ok (.istore_n 1, 1) := dk_60 (dk_at dksX4_fights_0 16 rfl rfl)
theorem dX4_fights_17 : decode cX4_fights 17 = .ok (.iload_n 1, 1) := dk_27 (dk_at dksX4_fights_0 17 rfl rfl)
theorem dX4_fights_18 : decode cX4_fights 18 = .ok (.aload_n 0, 1) := dk_42 (dk_at dksX4_fights_0 18 rfl rfl)
theorem dX4_fights_19 : decode cX4_fights 19 = .ok (.getfield 21, 3) := dk_180 0 21 (dk_at dksX4_fights_0 19 rfl rfl)
theorem dX4_fights_22 : decode cX4_fights 22 = .ok (.getfield 45, 3) := dk_180 0 45 (dk_at dksX4_fights_1 0 rfl rfl)
theorem dX4_fights_25 : decode cX4_fights 25 = .ok (.if_icmp .ge 123, 3) := dk_162 0 123 (dk_at dksX4_fights_1 3 rfl rfl)
theorem dX4_fights_28 : decode cX4_fights 28 = .ok (.aload_n 0, 1) := dk_42 (dk_at dksX4_fights_1 6 rfl rfl)
theorem dX4_fights_29 : decode cX4_fights 29 = .ok (.iload_n 1, 1) := dk_27 (dk_at dksX4_fights_1 7 rfl rfl)
theorem dX4_fights_30 : decode cX4_fights 30 = .ok (.invokevirtual 60, 3) := dk_182 0 60 (dk_at dksX4_fights_1 8 rfl rfl)
theorem dX4_fights_33 : decode cX4_fights 33 = .ok (.ifCond .eq 6, 3) := dk_153 0 6 (dk_at dksX4_fights_1 11 rfl rfl)
theorem dX4_fights_36 : decode cX4_fights 36 = .ok (.goto 106, 3) := dk_167 0 106 (dk_at dksX4_fights_1 14 rfl rfl)
theorem dX4_fights_39 : decode cX4_fights 39 = .ok (.aload_n 0, 1) := dk_42 (dk_at dksX4_fights_1 17 rfl rfl)
theorem dX4_fights_40 : decode cX4_fights 40 = .ok (.iload_n 1, 1) := dk_27 (dk_at dksX4_fights_1 18 rfl rfl)
theorem dX4_fights_41 : decode cX4_fights 41 = .ok (.invokevirtual 134, 3) := dk_182 0 134 (dk_at dksX4_fights_1 19 rfl rfl)
theorem dX4_fights_44 : decode cX4_fights 44 = .ok (.ifCond .ne 22, 3) := dk_154 0 22 (dk_at dksX4_fights_2 0 rfl rfl)
theorem dX4_fights_47 : decode cX4_fights 47 = .ok (.aload_n 0, 1) := dk_42 (dk_at dksX4_fights_2 3 rfl rfl)
theorem dX4_fights_48 : decode cX4_fights 48 = .ok (.dup, 1) := dk_89 (dk_at dksX4_fights_2 4 rfl rfl)
theorem dX4_fights_49 : decode cX4_fights 49 = .ok (.getfield 130, 3) := dk_180 0 130 (dk_at dksX4_fights_2 5 rfl rfl)
theorem dX4_fights_52 : decode cX4_fights 52 = .ok (.aload_n 0, 1) := dk_42 (dk_at dksX4_fights_2 8 rfl rfl)
theorem dX4_fights_53 : decode cX4_fights 53 = .ok (.iload_n 1, 1) := dk_27 (dk_at dksX4_fights_2 9 rfl rfl)
theorem dX4_fights_54 : decode cX4_fights 54 = .ok (.invokevirtual 82, 3) := dk_182 0 82 (dk_at dksX4_fights_2 10 rfl rfl)
theorem dX4_fights_57 : decode cX4_fights 57 = .ok (.iconst 2, 1) := dk_5 (dk_at dksX4_fights_2 13 rfl rfl)
theorem dX4_fights_58 : decode cX4_fights 58 = .ok (.idiv, 1) := dk_108 (dk_at dksX4_fights_2 14 rfl rfl)
theorem dX4_fights_59 : decode cX4_fights 59 = .ok (.iadd, 1) := dk_96 (dk_at dksX4_fights_2 15 rfl rfl)
theorem dX4_fights_60 : decode cX4_fights 60 = .ok (.putfield 130, 3) := dk_181 0 130 (dk_at dksX4_fights_2 16 rfl rfl)
theorem dX4_fights_63 : decode cX4_fights 63 = .ok (.goto 79, 3) := dk_167 0 79 (dk_at dksX4_fights_2 19 rfl rfl)
theorem dX4_fights_66 : decode cX4_fights 66 = .ok (.aload_n 0, 1) := dk_42 (dk_at dksX4_fights_2 22 rfl rfl)
theorem dX4_fights_67 : decode cX4_fights 67 = .ok (.dup, 1) := dk_89 (dk_at dksX4_fights_2 23 rfl rfl)
theorem dX4_fights_68 : decode cX4_fights 68 = .ok (.getfield 132, 3) := dk_180 0 132 (dk_at dksX4_fights_3 0 rfl rfl)
theorem dX4_fights_71 : decode cX4_fights 71 = .ok (.iconst 1, 1) := dk_4 (dk_at dksX4_fights_3 3 rfl rfl)
theorem dX4_fights_72 : decode cX4_fights 72 = .ok (.iload_n 1, 1) := dk_27 (dk_at dksX4_fights_3 4 rfl rfl)
theorem dX4_fights_73 : decode cX4_fights 73 = .ok (.ishl, 1) := dk_120 (dk_at dksX4_fights_3 5 rfl rfl)
theorem dX4_fights_74 : decode cX4_fights 74 = .ok (.ior, 1) := dk_128 (dk_at dksX4_fights_3 6 rfl rfl)
theorem dX4_fights_75 : decode cX4_fights 75 = .ok (.putfield 132, 3) := dk_181 0 132 (dk_at dksX4_fights_3 7 rfl rfl)
theorem dX4_fights_78 : decode cX4_fights 78 = .ok (.aload_n 0, 1) := dk_42 (dk_at dksX4_fights_3 10 rfl rfl)
theorem dX4_fights_79 : decode cX4_fights 79 = .ok (.getfield 9, 3) := dk_180 0 9 (dk_at dksX4_fights_3 11 rfl rfl)
theorem dX4_fights_82 : decode cX4_fights 82 = .ok (.iload_n 1, 1) := dk_27 (dk_at dksX4_fights_3 14 rfl rfl)
theorem dX4_fights_83 : decode cX4_fights 83 = .ok (.iaload, 1) := dk_46 (dk_at dksX4_fights_3 15 rfl rfl)
theorem dX4_fights_84 : decode cX4_fights 84 = .ok (.istore_n 2, 1) := dk_61 (dk_at dksX4_fights_3 16 rfl rfl)
theorem dX4_fights_85 : decode cX4_fights 85 = .ok (.aload_n 0, 1) := dk_42 (dk_at dksX4_fights_3 17 rfl rfl)
theorem dX4_fights_86 : decode cX4_fights 86 = .ok (.iload_n 1, 1) := dk_27 (dk_at dksX4_fights_3 18 rfl rfl)
theorem dX4_fights_87 : decode cX4_fights 87 = .ok (.iload_n 2, 1) := dk_28 (dk_at dksX4_fights_3 19 rfl rfl)
theorem dX4_fights_88 : decode cX4_fights 88 = .ok (.invokevirtual 109, 3) := dk_182 0 109 (dk_at dksX4_fights_3 20 rfl rfl)
theorem dX4_fights_91 : decode cX4_fights 91 = .ok (.istore_n 3, 1) := dk_62 (dk_at dksX4_fights_3 23 rfl rfl)
theorem dX4_fights_92 : decode cX4_fights 92 = .ok (.aload_n 0, 1) := dk_42 (dk_at dksX4_fights_4 0 rfl rfl)
theorem dX4_fights_93 : decode cX4_fights 93 = .ok (.dup, 1) := dk_89 (dk_at dksX4_fights_4 1 rfl rfl)
theorem dX4_fights_94 : decode cX4_fights 94 = .ok (.getfield 128, 3) := dk_180 0 128 (dk_at dksX4_fights_4 2 rfl rfl)
theorem dX4_fights_97 : decode cX4_fights 97 = .ok (.iload_n 3, 1) := dk_29 (dk_at dksX4_fights_4 5 rfl rfl)
theorem dX4_fights_98 : decode cX4_fights 98 = .ok (.iadd, 1) := dk_96 (dk_at dksX4_fights_4 6 rfl rfl)
theorem dX4_fights_99 : decode cX4_fights 99 = .ok (.putfield 128, 3) := dk_181 0 128 (dk_at dksX4_fights_4 7 rfl rfl)
theorem dX4_fights_102 : decode cX4_fights 102 = .ok (.aload_n 0, 1) := dk_42 (dk_at dksX4_fights_4 10 rfl rfl)
theorem dX4_fights_103 : decode cX4_fights 103 = .ok (.dup, 1) := dk_89 (dk_at dksX4_fights_4 11 rfl rfl)
theorem dX4_fights_104 : decode cX4_fights 104 = .ok (.getfield 130, 3) := dk_180 0 130 (dk_at dksX4_fights_4 12 rfl rfl)
theorem dX4_fights_107 : decode cX4_fights 107 = .ok (.aload_n 0, 1) := dk_42 (dk_at dksX4_fights_4 15 rfl rfl)
theorem dX4_fights_108 : decode cX4_fights 108 = .ok (.iload_n 1, 1) := dk_27 (dk_at dksX4_fights_4 16 rfl rfl)
theorem dX4_fights_109 : decode cX4_fights 109 = .ok (.iload_n 2, 1) := dk_28 (dk_at dksX4_fights_4 17 rfl rfl)
theorem dX4_fights_110 : decode cX4_fights 110 = .ok (.invokevirtual 111, 3) := dk_182 0 111 (dk_at dksX4_fights_4 18 rfl rfl)
theorem dX4_fights_113 : decode cX4_fights 113 = .ok (.iadd, 1) := dk_96 (dk_at dksX4_fights_4 21 rfl rfl)
theorem dX4_fights_114 : decode cX4_fights 114 = .ok (.putfield 130, 3) := dk_181 0 130 (dk_at dksX4_fights_5 0 rfl rfl)
theorem dX4_fights_117 : decode cX4_fights 117 = .ok (.aload_n 0, 1) := dk_42 (dk_at dksX4_fights_5 3 rfl rfl)
theorem dX4_fights_118 : decode cX4_fights 118 = .ok (.getfield 18, 3) := dk_180 0 18 (dk_at dksX4_fights_5 4 rfl rfl)
theorem dX4_fights_121 : decode cX4_fights 121 = .ok (.iload_n 2, 1) := dk_28 (dk_at dksX4_fights_5 7 rfl rfl)
theorem dX4_fights_122 : decode cX4_fights 122 = .ok (.aload_n 0, 1) := dk_42 (dk_at dksX4_fights_5 8 rfl rfl)
theorem dX4_fights_123 : decode cX4_fights 123 = .ok (.getfield 21, 3) := dk_180 0 21 (dk_at dksX4_fights_5 9 rfl rfl)
theorem dX4_fights_126 : decode cX4_fights 126 = .ok (.getfield 78, 3) := dk_180 0 78 (dk_at dksX4_fights_5 12 rfl rfl)
theorem dX4_fights_129 : decode cX4_fights 129 = .ok (.iload_n 2, 1) := dk_28 (dk_at dksX4_fights_5 15 rfl rfl)
theorem dX4_fights_130 : decode cX4_fights 130 = .ok (.aaload, 1) := dk_50 (dk_at dksX4_fights_5 16 rfl rfl)
theorem dX4_fights_131 : decode cX4_fights 131 = .ok (.aload_n 0, 1) := dk_42 (dk_at dksX4_fights_5 17 rfl rfl)
theorem dX4_fights_132 : decode cX4_fights 132 = .ok (.getfield 18, 3) := dk_180 0 18 (dk_at dksX4_fights_5 18 rfl rfl)
theorem dX4_fights_135 : decode cX4_fights 135 = .ok (.iload_n 2, 1) := dk_28 (dk_at dksX4_fights_5 21 rfl rfl)
theorem dX4_fights_136 : decode cX4_fights 136 = .ok (.iaload, 1) := dk_46 (dk_at dksX4_fights_5 22 rfl rfl)
theorem dX4_fights_137 : decode cX4_fights 137 = .ok (.iload_n 3, 1) := dk_29 (dk_at dksX4_fights_5 23 rfl rfl)
theorem dX4_fights_138 : decode cX4_fights 138 = .ok (.invokevirtual 137, 3) := dk_182 0 137 (dk_at dksX4_fights_6 0 rfl rfl)
theorem dX4_fights_141 : decode cX4_fights 141 = .ok (.iastore, 1) := dk_79 (dk_at dksX4_fights_6 3 rfl rfl)
theorem dX4_fights_142 : decode cX4_fights 142 = .ok (.iinc 1 1, 3) := dk_132 1 1 (dk_at dksX4_fights_6 4 rfl rfl)
theorem dX4_fights_145 : decode cX4_fights 145 = .ok (.goto (-128), 3) := dk_167 255 128 (dk_at dksX4_fights_6 7 rfl rfl)
theorem dX4_fights_148 : decode cX4_fights 148 = .ok (.return_, 1) := dk_177 (dk_at dksX4_fights_6 10 rfl rfl)
abbrev cX4_holds : ByteArray := prog_7_method_16_code
def yX4_holds : MethodName := ⟨RX4, "holds", "(I)Z"⟩
def dkwX4_holds_2 : List UInt8 := [3, 172, 132, 3, 1, 167, 255, 212, 4, 172]
abbrev dktX4_holds_2 : List UInt8 := dkwX4_holds_2 ++ []
def dkwX4_holds_1 : List UInt8 := [180, 0, 29, 104, 16, 74, 96, 18, 127, 112, 181, 0, 29, 42, 180, 0, 29, 16, 100, 112, 28, 161, 0, 5]
abbrev dktX4_holds_1 : List UInt8 := dkwX4_holds_1 ++ dktX4_holds_2
def dkwX4_holds_0 : List UInt8 := [42, 27, 182, 0, 103, 61, 3, 62, 29, 42, 180, 0, 21, 180, 0, 94, 162, 0, 39, 42, 16, 75, 42]
abbrev dktX4_holds_0 : List UInt8 := dkwX4_holds_0 ++ dktX4_holds_1
theorem dksX4_holds_0 : cX4_holds.data.toList.drop 0 = dktX4_holds_0 := by decide +kernel
theorem dksX4_holds_1 : cX4_holds.data.toList.drop 23 = dktX4_holds_1 := dk_seg dksX4_holds_0 23 rfl rfl
theorem dksX4_holds_2 : cX4_holds.data.toList.drop 47 = dktX4_holds_2 := dk_seg dksX4_holds_1 24 rfl rfl
theorem dX4_holds_0 : decode cX4_holds 0 = .ok (.aload_n 0, 1) := dk_42 (dk_at dksX4_holds_0 0 rfl rfl)
theorem dX4_holds_1 : decode cX4_holds 1 = .ok (.iload_n 1, 1) := dk_27 (dk_at dksX4_holds_0 1 rfl rfl)
theorem dX4_holds_2 : decode cX4_holds 2 = .ok (.invokevirtual 103, 3) := dk_182 0 103 (dk_at dksX4_holds_0 2 rfl rfl)
theorem dX4_holds_5 : decode cX4_holds 5 = .ok (.istore_n 2, 1) := dk_61 (dk_at dksX4_holds_0 5 rfl rfl)
theorem dX4_holds_6 : decode cX4_holds 6 = .ok (.iconst 0, 1) := dk_3 (dk_at dksX4_holds_0 6 rfl rfl)
theorem dX4_holds_7 : decode cX4_holds 7 = .ok (.istore_n 3, 1) := dk_62 (dk_at dksX4_holds_0 7 rfl rfl)
theorem dX4_holds_8 : decode cX4_holds 8 = .ok (.iload_n 3, 1) := dk_29 (dk_at dksX4_holds_0 8 rfl rfl)
theorem dX4_holds_9 : decode cX4_holds 9 = .ok (.aload_n 0, 1) := dk_42 (dk_at dksX4_holds_0 9 rfl rfl)
theorem dX4_holds_10 : decode cX4_holds 10 = .ok (.getfield 21, 3) := dk_180 0 21 (dk_at dksX4_holds_0 10 rfl rfl)
theorem dX4_holds_13 : decode cX4_holds 13 = .ok (.getfield 94, 3) := dk_180 0 94 (dk_at dksX4_holds_0 13 rfl rfl)
theorem dX4_holds_16 : decode cX4_holds 16 = .ok (.if_icmp .ge 39, 3) := dk_162 0 39 (dk_at dksX4_holds_0 16 rfl rfl)
theorem dX4_holds_19 : decode cX4_holds 19 = .ok (.aload_n 0, 1) := dk_42 (dk_at dksX4_holds_0 19 rfl rfl)
theorem dX4_holds_20 : decode cX4_holds 20 = .ok (.bipush 75, 2) := dk_16 75 (dk_at dksX4_holds_0 20 rfl rfl)
theorem dX4_holds_22 : decode cX4_holds 22 = .ok (.aload_n 0, 1) := dk_42 (dk_at dksX4_holds_0 22 rfl rfl)
theorem dX4_holds_23 : decode cX4_holds 23 = .ok (.getfield 29, 3) := dk_180 0 29 (dk_at dksX4_holds_1 0 rfl rfl)
theorem dX4_holds_26 : decode cX4_holds 26 = .ok (.imul, 1) := dk_104 (dk_at dksX4_holds_1 3 rfl rfl)
theorem dX4_holds_27 : decode cX4_holds 27 = .ok (.bipush 74, 2) := dk_16 74 (dk_at dksX4_holds_1 4 rfl rfl)
theorem dX4_holds_29 : decode cX4_holds 29 = .ok (.iadd, 1) := dk_96 (dk_at dksX4_holds_1 6 rfl rfl)
theorem dX4_holds_30 : decode cX4_holds 30 = .ok (.ldc 127, 2) := dk_18 127 (dk_at dksX4_holds_1 7 rfl rfl)
theorem dX4_holds_32 : decode cX4_holds 32 = .ok (.irem, 1) := dk_112 (dk_at dksX4_holds_1 9 rfl rfl)
theorem dX4_holds_33 : decode cX4_holds 33 = .ok (.putfield 29, 3) := dk_181 0 29 (dk_at dksX4_holds_1 10 rfl rfl)
theorem dX4_holds_36 : decode cX4_holds 36 = .ok (.aload_n 0, 1) := dk_42 (dk_at dksX4_holds_1 13 rfl rfl)
theorem dX4_holds_37 : decode cX4_holds 37 = .ok (.getfield 29, 3) := dk_180 0 29 (dk_at dksX4_holds_1 14 rfl rfl)
theorem dX4_holds_40 : decode cX4_holds 40 = .ok (.bipush 100, 2) := dk_16 100 (dk_at dksX4_holds_1 17 rfl rfl)
theorem dX4_holds_42 : decode cX4_holds 42 = .ok (.irem, 1) := dk_112 (dk_at dksX4_holds_1 19 rfl rfl)
theorem dX4_holds_43 : decode cX4_holds 43 = .ok (.iload_n 2, 1) := dk_28 (dk_at dksX4_holds_1 20 rfl rfl)
theorem dX4_holds_44 : decode cX4_holds 44 = .ok (.if_icmp .lt 5, 3) := dk_161 0 5 (dk_at dksX4_holds_1 21 rfl rfl)
theorem dX4_holds_47 : decode cX4_holds 47 = .ok (.iconst 0, 1) := dk_3 (dk_at dksX4_holds_2 0 rfl rfl)
theorem dX4_holds_48 : decode cX4_holds 48 = .ok (.ireturn, 1) := dk_172 (dk_at dksX4_holds_2 1 rfl rfl)
theorem dX4_holds_49 : decode cX4_holds 49 = .ok (.iinc 3 1, 3) := dk_132 3 1 (dk_at dksX4_holds_2 2 rfl rfl)
theorem dX4_holds_52 : decode cX4_holds 52 = .ok (.goto (-44), 3) := dk_167 255 212 (dk_at dksX4_holds_2 5 rfl rfl)
theorem dX4_holds_55 : decode cX4_holds 55 = .ok (.iconst 1, 1) := dk_4 (dk_at dksX4_holds_2 8 rfl rfl)
theorem dX4_holds_56 : decode cX4_holds 56 = .ok (.ireturn, 1) := dk_172 (dk_at dksX4_holds_2 9 rfl rfl)
theorem q122 : (Jvm.Cond.initialized "ElephantLine$Front") ∈ lw_all := lw_g (lw_at lw_m1 7 rfl) rfl
theorem q268 : (Jvm.Cond.instantiable "ElephantLine$Front" (10 : Nat)) ∈ lw_all := lw_g (lw_at lw_m1 153 rfl) rfl
theorem q270 : (Jvm.Cond.instanceMethod ({ cls := "ElephantLine$Front", name := "<init>", desc := "()V" } : Jvm.MethodName)) ∈ lw_all := lw_g (lw_at lw_m1 155 rfl) rfl
theorem q271 : (Jvm.Cond.code ({ cls := "ElephantLine$Front", name := "<init>", desc := "()V" } : Jvm.MethodName) prog_7_method_1_code (1 : Nat) (Option.none : Option Jvm.ClassFile.FieldType)) ∈ lw_all := lw_g (lw_at lw_m1 156 rfl) rfl
theorem q272 : (Jvm.Cond.methodLink "ElephantLine$Front" (3 : Nat) ({ cls := "java/lang/Object", name := "<init>", desc := "()V" } : Jvm.MethodName)) ∈ lw_all := lw_g (lw_at lw_m1 157 rfl) rfl
theorem q273 : (Jvm.Cond.fieldLink "ElephantLine$Front" (9 : Nat) "ElephantLine$Front" "lane" "[I") ∈ lw_all := lw_g (lw_at lw_m1 158 rfl) rfl
theorem q275 : (Jvm.Cond.fieldLink "ElephantLine$Front" (15 : Nat) "ElephantLine$Front" "wounds" "[I") ∈ lw_all := lw_g (lw_at lw_m1 160 rfl) rfl
theorem q277 : (Jvm.Cond.fieldLink "ElephantLine$Front" (18 : Nat) "ElephantLine$Front" "strong" "[I") ∈ lw_all := lw_g (lw_at lw_m1 162 rfl) rfl
theorem q279 : (Jvm.Cond.fieldLink "ElephantLine$Front" (21 : Nat) "ElephantLine$Front" "war" "LElephantLine$War;") ∈ lw_all := lw_g (lw_at lw_m1 164 rfl) rfl
theorem q280 : (Jvm.Cond.fieldLink "ElephantLine$Front" (25 : Nat) "ElephantLine$Front" "dead" "I") ∈ lw_all := lw_g (lw_at lw_m1 165 rfl) rfl
theorem q282 : (Jvm.Cond.fieldLink "ElephantLine$Front" (29 : Nat) "ElephantLine$Front" "seed" "I") ∈ lw_all := lw_g (lw_at lw_m1 167 rfl) rfl
theorem q284 : (Jvm.Cond.fieldLink "ElephantLine$Front" (32 : Nat) "ElephantLine$Front" "rain" "Z") ∈ lw_all := lw_g (lw_at lw_m1 169 rfl) rfl
theorem q286 : (Jvm.Cond.fieldLink "ElephantLine$Front" (128 : Nat) "ElephantLine$Front" "foes" "I") ∈ lw_all := lw_g (lw_at lw_m1 171 rfl) rfl
theorem q288 : (Jvm.Cond.fieldLink "ElephantLine$Front" (130 : Nat) "ElephantLine$Front" "own" "I") ∈ lw_all := lw_g (lw_at lw_m1 173 rfl) rfl
theorem q290 : (Jvm.Cond.fieldLink "ElephantLine$Front" (132 : Nat) "ElephantLine$Front" "across" "I") ∈ lw_all := lw_g (lw_at lw_m1 175 rfl) rfl
theorem q292 : (Jvm.Cond.laysFinal "ElephantLine$Front" "ElephantLine$Front" "lane" "[I") ∈ lw_all := lw_g (lw_at lw_m1 177 rfl) rfl
theorem q293 : (Jvm.Cond.soleField "ElephantLine$Front" "lane") ∈ lw_all := lw_g (lw_at lw_m1 178 rfl) rfl
theorem q294 : (Jvm.Cond.laysFinal "ElephantLine$Front" "ElephantLine$Front" "wounds" "[I") ∈ lw_all := lw_g (lw_at lw_m1 179 rfl) rfl
theorem q295 : (Jvm.Cond.soleField "ElephantLine$Front" "wounds") ∈ lw_all := lw_g (lw_at lw_m1 180 rfl) rfl
theorem q296 : (Jvm.Cond.laysFinal "ElephantLine$Front" "ElephantLine$Front" "strong" "[I") ∈ lw_all := lw_g (lw_at lw_m1 181 rfl) rfl
theorem q297 : (Jvm.Cond.soleField "ElephantLine$Front" "strong") ∈ lw_all := lw_g (lw_at lw_m1 182 rfl) rfl
theorem q298 : (Jvm.Cond.lays "ElephantLine$Front" "ElephantLine$Front" "war" "LElephantLine$War;") ∈ lw_all := lw_g (lw_at lw_m1 183 rfl) rfl
theorem q299 : (Jvm.Cond.soleField "ElephantLine$Front" "war") ∈ lw_all := lw_g (lw_at lw_m1 184 rfl) rfl
theorem q300 : (Jvm.Cond.lays "ElephantLine$Front" "ElephantLine$Front" "dead" "I") ∈ lw_all := lw_g (lw_at lw_m1 185 rfl) rfl
theorem q301 : (Jvm.Cond.soleField "ElephantLine$Front" "dead") ∈ lw_all := lw_g (lw_at lw_m1 186 rfl) rfl
theorem q302 : (Jvm.Cond.lays "ElephantLine$Front" "ElephantLine$Front" "seed" "I") ∈ lw_all := lw_g (lw_at lw_m1 187 rfl) rfl
theorem q303 : (Jvm.Cond.soleField "ElephantLine$Front" "seed") ∈ lw_all := lw_g (lw_at lw_m1 188 rfl) rfl
theorem q304 : (Jvm.Cond.lays "ElephantLine$Front" "ElephantLine$Front" "rain" "Z") ∈ lw_all := lw_g (lw_at lw_m1 189 rfl) rfl
theorem q305 : (Jvm.Cond.soleField "ElephantLine$Front" "rain") ∈ lw_all := lw_g (lw_at lw_m1 190 rfl) rfl
theorem q306 : (Jvm.Cond.lays "ElephantLine$Front" "ElephantLine$Front" "foes" "I") ∈ lw_all := lw_g (lw_at lw_m1 191 rfl) rfl
theorem q307 : (Jvm.Cond.soleField "ElephantLine$Front" "foes") ∈ lw_all := lw_g (lw_at lw_m1 192 rfl) rfl
theorem q308 : (Jvm.Cond.lays "ElephantLine$Front" "ElephantLine$Front" "own" "I") ∈ lw_all := lw_g (lw_at lw_m1 193 rfl) rfl
theorem q309 : (Jvm.Cond.soleField "ElephantLine$Front" "own") ∈ lw_all := lw_g (lw_at lw_m1 194 rfl) rfl
theorem q310 : (Jvm.Cond.lays "ElephantLine$Front" "ElephantLine$Front" "across" "I") ∈ lw_all := lw_g (lw_at lw_m1 195 rfl) rfl
theorem q311 : (Jvm.Cond.soleField "ElephantLine$Front" "across") ∈ lw_all := lw_g (lw_at lw_m1 196 rfl) rfl
theorem q312 : (Jvm.Cond.superclass "ElephantLine$Front" "java/lang/Object") ∈ lw_all := lw_g (lw_at lw_m1 197 rfl) rfl
theorem q480 : (Jvm.Cond.fieldLink "ElephantLine$Front" (78 : Nat) "ElephantLine$War" "stands" "[LElephantLine$Stand;") ∈ lw_all := lw_g (lw_at lw_m2 125 rfl) rfl
theorem q484 : (Jvm.Cond.fieldLink "ElephantLine$Front" (36 : Nat) "ElephantLine$War" "strong" "[I") ∈ lw_all := lw_g (lw_at lw_m2 129 rfl) rfl
theorem q489 : (Jvm.Cond.fieldLink "ElephantLine$Front" (48 : Nat) "ElephantLine$War" "beasts" "[LElephantLine$Beast;") ∈ lw_all := lw_g (lw_at lw_m2 134 rfl) rfl
theorem q497 : (Jvm.Cond.fieldLink "ElephantLine$Front" (94 : Nat) "ElephantLine$War" "deep" "I") ∈ lw_all := lw_g (lw_at lw_m2 142 rfl) rfl
theorem q503 : (Jvm.Cond.fieldLink "ElephantLine$Front" (45 : Nat) "ElephantLine$War" "beastMany" "I") ∈ lw_all := lw_g (lw_at lw_m2 148 rfl) rfl
theorem q817 : (Jvm.Cond.fieldLink "ElephantLine$Front" (52 : Nat) "ElephantLine$Beast" "lane" "I") ∈ lw_all := lw_g (lw_at lw_m3 222 rfl) rfl
theorem q923 : (Jvm.Cond.instanceMethod ({ cls := "ElephantLine$Front", name := "begin", desc := "(LElephantLine$War;)V" } : Jvm.MethodName)) ∈ lw_all := lw_g (lw_at lw_m4 88 rfl) rfl
theorem q924 : (Jvm.Cond.selects "ElephantLine$Front" ({ cls := "ElephantLine$Front", name := "begin", desc := "(LElephantLine$War;)V" } : Jvm.MethodName) ({ cls := "ElephantLine$Front", name := "begin", desc := "(LElephantLine$War;)V" } : Jvm.MethodName)) ∈ lw_all := lw_g (lw_at lw_m4 89 rfl) rfl
theorem q925 : (Jvm.Cond.code ({ cls := "ElephantLine$Front", name := "begin", desc := "(LElephantLine$War;)V" } : Jvm.MethodName) prog_7_method_2_code (3 : Nat) (Option.none : Option Jvm.ClassFile.FieldType)) ∈ lw_all := lw_g (lw_at lw_m4 90 rfl) rfl
theorem q926 : (Jvm.Cond.methodLink "ElephantLine$Front" (39 : Nat) ({ cls := "java/lang/System", name := "arraycopy", desc := "(Ljava/lang/Object;ILjava/lang/Object;II)V" } : Jvm.MethodName)) ∈ lw_all := lw_g (lw_at lw_m4 91 rfl) rfl
theorem q964 : (Jvm.Cond.instanceMethod ({ cls := "ElephantLine$Front", name := "isDead", desc := "(I)Z" } : Jvm.MethodName)) ∈ lw_all := lw_g (lw_at lw_m4 129 rfl) rfl
theorem q965 : (Jvm.Cond.selects "ElephantLine$Front" ({ cls := "ElephantLine$Front", name := "isDead", desc := "(I)Z" } : Jvm.MethodName) ({ cls := "ElephantLine$Front", name := "isDead", desc := "(I)Z" } : Jvm.MethodName)) ∈ lw_all := lw_g (lw_at lw_m4 130 rfl) rfl
theorem q966 : (Jvm.Cond.code ({ cls := "ElephantLine$Front", name := "isDead", desc := "(I)Z" } : Jvm.MethodName) prog_7_method_4_code (2 : Nat) (Option.some Jvm.ClassFile.FieldType.boolean)) ∈ lw_all := lw_g (lw_at lw_m4 131 rfl) rfl
theorem q967 : (Jvm.Cond.methodLinkNest "ElephantLine$Front" (56 : Nat) ({ cls := "ElephantLine", name := "has", desc := "(II)Z" } : Jvm.MethodName) "ElephantLine") ∈ lw_tbl := lw_at lw_m4 132 rfl
theorem q994 : (Jvm.Cond.instanceMethod ({ cls := "ElephantLine$Front", name := "force", desc := "(I)I" } : Jvm.MethodName)) ∈ lw_all := lw_g (lw_at lw_m4 159 rfl) rfl
theorem q995 : (Jvm.Cond.selects "ElephantLine$Front" ({ cls := "ElephantLine$Front", name := "force", desc := "(I)I" } : Jvm.MethodName) ({ cls := "ElephantLine$Front", name := "force", desc := "(I)I" } : Jvm.MethodName)) ∈ lw_all := lw_g (lw_at lw_m4 160 rfl) rfl
theorem q996 : (Jvm.Cond.code ({ cls := "ElephantLine$Front", name := "force", desc := "(I)I" } : Jvm.MethodName) prog_7_method_5_code (2 : Nat) (Option.some Jvm.ClassFile.FieldType.int)) ∈ lw_all := lw_g (lw_at lw_m4 161 rfl) rfl
theorem q997 : (Jvm.Cond.methodLink "ElephantLine$Front" (60 : Nat) ({ cls := "ElephantLine$Front", name := "isDead", desc := "(I)Z" } : Jvm.MethodName)) ∈ lw_all := lw_g (lw_at lw_m4 162 rfl) rfl
theorem q998 : (Jvm.Cond.methodLink "ElephantLine$Front" (64 : Nat) ({ cls := "ElephantLine$Beast", name := "force", desc := "()I" } : Jvm.MethodName)) ∈ lw_all := lw_g (lw_at lw_m4 163 rfl) rfl
theorem q1014 : (Jvm.Cond.methodLink "ElephantLine$Front" (68 : Nat) ({ cls := "java/lang/Math", name := "max", desc := "(II)I" } : Jvm.MethodName)) ∈ lw_all := lw_g (lw_at lw_m4 179 rfl) rfl
theorem q1018 : (Jvm.Cond.instanceMethod ({ cls := "ElephantLine$Front", name := "hold", desc := "(I)I" } : Jvm.MethodName)) ∈ lw_all := lw_g (lw_at lw_m4 183 rfl) rfl
theorem q1019 : (Jvm.Cond.selects "ElephantLine$Front" ({ cls := "ElephantLine$Front", name := "hold", desc := "(I)I" } : Jvm.MethodName) ({ cls := "ElephantLine$Front", name := "hold", desc := "(I)I" } : Jvm.MethodName)) ∈ lw_all := lw_g (lw_at lw_m4 184 rfl) rfl
theorem q1020 : (Jvm.Cond.code ({ cls := "ElephantLine$Front", name := "hold", desc := "(I)I" } : Jvm.MethodName) prog_7_method_6_code (2 : Nat) (Option.some Jvm.ClassFile.FieldType.int)) ∈ lw_all := lw_g (lw_at lw_m4 185 rfl) rfl
theorem q1021 : (Jvm.Cond.methodLink "ElephantLine$Front" (74 : Nat) ({ cls := "ElephantLine$Beast", name := "hold", desc := "(Z)I" } : Jvm.MethodName)) ∈ lw_all := lw_g (lw_at lw_m4 186 rfl) rfl
theorem q1047 : (Jvm.Cond.instanceMethod ({ cls := "ElephantLine$Front", name := "across", desc := "(I)J" } : Jvm.MethodName)) ∈ lw_all := lw_g (lw_at lw_m4 212 rfl) rfl
theorem q1048 : (Jvm.Cond.selects "ElephantLine$Front" ({ cls := "ElephantLine$Front", name := "across", desc := "(I)J" } : Jvm.MethodName) ({ cls := "ElephantLine$Front", name := "across", desc := "(I)J" } : Jvm.MethodName)) ∈ lw_all := lw_g (lw_at lw_m4 213 rfl) rfl
theorem q1049 : (Jvm.Cond.code ({ cls := "ElephantLine$Front", name := "across", desc := "(I)J" } : Jvm.MethodName) prog_7_method_11_code (2 : Nat) (Option.some Jvm.ClassFile.FieldType.long)) ∈ lw_all := lw_g (lw_at lw_m4 214 rfl) rfl
theorem q1050 : (Jvm.Cond.methodLink "ElephantLine$Front" (103 : Nat) ({ cls := "ElephantLine$Front", name := "hold", desc := "(I)I" } : Jvm.MethodName)) ∈ lw_all := lw_g (lw_at lw_m4 215 rfl) rfl
theorem q1051 : (Jvm.Cond.methodLink "ElephantLine$Front" (99 : Nat) ({ cls := "ElephantLine$Front", name := "steps", desc := "(J)J" } : Jvm.MethodName)) ∈ lw_all := lw_g (lw_at lw_m4 216 rfl) rfl
theorem q1052 : (Jvm.Cond.privateMethod ({ cls := "ElephantLine$Front", name := "steps", desc := "(J)J" } : Jvm.MethodName)) ∈ lw_tbl := lw_at lw_m4 217 rfl
theorem q1053 : (Jvm.Cond.instanceMethod ({ cls := "ElephantLine$Front", name := "steps", desc := "(J)J" } : Jvm.MethodName)) ∈ lw_all := lw_g (lw_at lw_m4 218 rfl) rfl
theorem q1054 : (Jvm.Cond.code ({ cls := "ElephantLine$Front", name := "steps", desc := "(J)J" } : Jvm.MethodName) prog_7_method_9_code (6 : Nat) (Option.some Jvm.ClassFile.FieldType.long)) ∈ lw_all := lw_g (lw_at lw_m4 219 rfl) rfl
theorem q1056 : (Jvm.Cond.instanceMethod ({ cls := "ElephantLine$Front", name := "of", desc := "()J" } : Jvm.MethodName)) ∈ lw_all := lw_g (lw_at lw_m4 221 rfl) rfl
theorem q1057 : (Jvm.Cond.selects "ElephantLine$Front" ({ cls := "ElephantLine$Front", name := "of", desc := "()J" } : Jvm.MethodName) ({ cls := "ElephantLine$Front", name := "of", desc := "()J" } : Jvm.MethodName)) ∈ lw_all := lw_g (lw_at lw_m4 222 rfl) rfl
theorem q1058 : (Jvm.Cond.code ({ cls := "ElephantLine$Front", name := "of", desc := "()J" } : Jvm.MethodName) prog_7_method_10_code (1 : Nat) (Option.some Jvm.ClassFile.FieldType.long)) ∈ lw_all := lw_g (lw_at lw_m4 223 rfl) rfl
theorem q1059 : (Jvm.Cond.constantLong "ElephantLine$Front" (97 : Nat) (100 : Int64)) ∈ lw_all := lw_g (lw_at lw_m4 224 rfl) rfl
theorem q1074 : (Jvm.Cond.instanceMethod ({ cls := "ElephantLine$Front", name := "own", desc := "(II)I" } : Jvm.MethodName)) ∈ lw_all := lw_g (lw_at lw_m4 239 rfl) rfl
theorem q1075 : (Jvm.Cond.selects "ElephantLine$Front" ({ cls := "ElephantLine$Front", name := "own", desc := "(II)I" } : Jvm.MethodName) ({ cls := "ElephantLine$Front", name := "own", desc := "(II)I" } : Jvm.MethodName)) ∈ lw_all := lw_g (lw_at lw_m5 0 rfl) rfl
theorem q1076 : (Jvm.Cond.code ({ cls := "ElephantLine$Front", name := "own", desc := "(II)I" } : Jvm.MethodName) prog_7_method_8_code (3 : Nat) (Option.some Jvm.ClassFile.FieldType.int)) ∈ lw_all := lw_g (lw_at lw_m5 1 rfl) rfl
theorem q1077 : (Jvm.Cond.methodLink "ElephantLine$Front" (82 : Nat) ({ cls := "ElephantLine$Front", name := "force", desc := "(I)I" } : Jvm.MethodName)) ∈ lw_all := lw_g (lw_at lw_m5 2 rfl) rfl
theorem q1078 : (Jvm.Cond.methodLink "ElephantLine$Front" (91 : Nat) ({ cls := "ElephantLine$Stand", name := "own", desc := "(LElephantLine$Beast;II)I" } : Jvm.MethodName)) ∈ lw_all := lw_g (lw_at lw_m5 3 rfl) rfl
theorem q1101 : (Jvm.Cond.instanceMethod ({ cls := "ElephantLine$Front", name := "foes", desc := "(II)I" } : Jvm.MethodName)) ∈ lw_all := lw_g (lw_at lw_m5 26 rfl) rfl
theorem q1102 : (Jvm.Cond.selects "ElephantLine$Front" ({ cls := "ElephantLine$Front", name := "foes", desc := "(II)I" } : Jvm.MethodName) ({ cls := "ElephantLine$Front", name := "foes", desc := "(II)I" } : Jvm.MethodName)) ∈ lw_all := lw_g (lw_at lw_m5 27 rfl) rfl
theorem q1103 : (Jvm.Cond.code ({ cls := "ElephantLine$Front", name := "foes", desc := "(II)I" } : Jvm.MethodName) prog_7_method_7_code (3 : Nat) (Option.some Jvm.ClassFile.FieldType.int)) ∈ lw_all := lw_g (lw_at lw_m5 28 rfl) rfl
theorem q1104 : (Jvm.Cond.methodLink "ElephantLine$Front" (85 : Nat) ({ cls := "ElephantLine$Stand", name := "foes", desc := "(LElephantLine$Beast;II)I" } : Jvm.MethodName)) ∈ lw_all := lw_g (lw_at lw_m5 29 rfl) rfl
theorem q1124 : (Jvm.Cond.instanceMethod ({ cls := "ElephantLine$Front", name := "meanOwn", desc := "(II)J" } : Jvm.MethodName)) ∈ lw_all := lw_g (lw_at lw_m5 49 rfl) rfl
theorem q1125 : (Jvm.Cond.selects "ElephantLine$Front" ({ cls := "ElephantLine$Front", name := "meanOwn", desc := "(II)J" } : Jvm.MethodName) ({ cls := "ElephantLine$Front", name := "meanOwn", desc := "(II)J" } : Jvm.MethodName)) ∈ lw_all := lw_g (lw_at lw_m5 50 rfl) rfl
theorem q1126 : (Jvm.Cond.code ({ cls := "ElephantLine$Front", name := "meanOwn", desc := "(II)J" } : Jvm.MethodName) prog_7_method_13_code (3 : Nat) (Option.some Jvm.ClassFile.FieldType.long)) ∈ lw_all := lw_g (lw_at lw_m5 51 rfl) rfl
theorem q1127 : (Jvm.Cond.methodLink "ElephantLine$Front" (105 : Nat) ({ cls := "ElephantLine$Front", name := "across", desc := "(I)J" } : Jvm.MethodName)) ∈ lw_all := lw_g (lw_at lw_m5 52 rfl) rfl
theorem q1128 : (Jvm.Cond.methodLink "ElephantLine$Front" (111 : Nat) ({ cls := "ElephantLine$Front", name := "own", desc := "(II)I" } : Jvm.MethodName)) ∈ lw_all := lw_g (lw_at lw_m5 53 rfl) rfl
theorem q1129 : (Jvm.Cond.methodLink "ElephantLine$Front" (113 : Nat) ({ cls := "ElephantLine$Front", name := "of", desc := "()J" } : Jvm.MethodName)) ∈ lw_all := lw_g (lw_at lw_m5 54 rfl) rfl
theorem q1131 : (Jvm.Cond.instanceMethod ({ cls := "ElephantLine$Front", name := "meanFoes", desc := "(II)J" } : Jvm.MethodName)) ∈ lw_all := lw_g (lw_at lw_m5 56 rfl) rfl
theorem q1132 : (Jvm.Cond.selects "ElephantLine$Front" ({ cls := "ElephantLine$Front", name := "meanFoes", desc := "(II)J" } : Jvm.MethodName) ({ cls := "ElephantLine$Front", name := "meanFoes", desc := "(II)J" } : Jvm.MethodName)) ∈ lw_all := lw_g (lw_at lw_m5 57 rfl) rfl
theorem q1133 : (Jvm.Cond.code ({ cls := "ElephantLine$Front", name := "meanFoes", desc := "(II)J" } : Jvm.MethodName) prog_7_method_12_code (3 : Nat) (Option.some Jvm.ClassFile.FieldType.long)) ∈ lw_all := lw_g (lw_at lw_m5 58 rfl) rfl
theorem q1134 : (Jvm.Cond.methodLink "ElephantLine$Front" (109 : Nat) ({ cls := "ElephantLine$Front", name := "foes", desc := "(II)I" } : Jvm.MethodName)) ∈ lw_all := lw_g (lw_at lw_m5 59 rfl) rfl
theorem q1140 : (Jvm.Cond.instanceMethod ({ cls := "ElephantLine$Front", name := "worth", desc := "(II)J" } : Jvm.MethodName)) ∈ lw_all := lw_g (lw_at lw_m5 65 rfl) rfl
theorem q1141 : (Jvm.Cond.selects "ElephantLine$Front" ({ cls := "ElephantLine$Front", name := "worth", desc := "(II)J" } : Jvm.MethodName) ({ cls := "ElephantLine$Front", name := "worth", desc := "(II)J" } : Jvm.MethodName)) ∈ lw_all := lw_g (lw_at lw_m5 66 rfl) rfl
theorem q1142 : (Jvm.Cond.code ({ cls := "ElephantLine$Front", name := "worth", desc := "(II)J" } : Jvm.MethodName) prog_7_method_14_code (3 : Nat) (Option.some Jvm.ClassFile.FieldType.long)) ∈ lw_all := lw_g (lw_at lw_m5 67 rfl) rfl
theorem q1143 : (Jvm.Cond.methodLink "ElephantLine$Front" (117 : Nat) ({ cls := "ElephantLine$Front", name := "meanFoes", desc := "(II)J" } : Jvm.MethodName)) ∈ lw_all := lw_g (lw_at lw_m5 68 rfl) rfl
theorem q1144 : (Jvm.Cond.methodLink "ElephantLine$Front" (121 : Nat) ({ cls := "ElephantLine$Front", name := "meanOwn", desc := "(II)J" } : Jvm.MethodName)) ∈ lw_all := lw_g (lw_at lw_m5 69 rfl) rfl
theorem q1167 : (Jvm.Cond.instanceMethod ({ cls := "ElephantLine$Front", name := "become", desc := "(LElephantLine$Front;)V" } : Jvm.MethodName)) ∈ lw_all := lw_g (lw_at lw_m5 92 rfl) rfl
theorem q1168 : (Jvm.Cond.selects "ElephantLine$Front" ({ cls := "ElephantLine$Front", name := "become", desc := "(LElephantLine$Front;)V" } : Jvm.MethodName) ({ cls := "ElephantLine$Front", name := "become", desc := "(LElephantLine$Front;)V" } : Jvm.MethodName)) ∈ lw_all := lw_g (lw_at lw_m5 93 rfl) rfl
theorem q1169 : (Jvm.Cond.code ({ cls := "ElephantLine$Front", name := "become", desc := "(LElephantLine$Front;)V" } : Jvm.MethodName) prog_7_method_3_code (2 : Nat) (Option.none : Option Jvm.ClassFile.FieldType)) ∈ lw_all := lw_g (lw_at lw_m5 94 rfl) rfl
theorem q1183 : (Jvm.Cond.instanceMethod ({ cls := "ElephantLine$Front", name := "worthBy", desc := "(III)J" } : Jvm.MethodName)) ∈ lw_all := lw_g (lw_at lw_m5 108 rfl) rfl
theorem q1184 : (Jvm.Cond.selects "ElephantLine$Front" ({ cls := "ElephantLine$Front", name := "worthBy", desc := "(III)J" } : Jvm.MethodName) ({ cls := "ElephantLine$Front", name := "worthBy", desc := "(III)J" } : Jvm.MethodName)) ∈ lw_all := lw_g (lw_at lw_m5 109 rfl) rfl
theorem q1185 : (Jvm.Cond.code ({ cls := "ElephantLine$Front", name := "worthBy", desc := "(III)J" } : Jvm.MethodName) prog_7_method_15_code (4 : Nat) (Option.some Jvm.ClassFile.FieldType.long)) ∈ lw_all := lw_g (lw_at lw_m5 110 rfl) rfl
theorem q1186 : (Jvm.Cond.methodLink "ElephantLine$Front" (124 : Nat) ({ cls := "ElephantLine$Front", name := "worth", desc := "(II)J" } : Jvm.MethodName)) ∈ lw_all := lw_g (lw_at lw_m5 111 rfl) rfl
theorem q1338 : (Jvm.Cond.instanceMethod ({ cls := "ElephantLine$Front", name := "turnedBy", desc := "(I)I" } : Jvm.MethodName)) ∈ lw_all := lw_g (lw_at lw_m6 23 rfl) rfl
theorem q1339 : (Jvm.Cond.selects "ElephantLine$Front" ({ cls := "ElephantLine$Front", name := "turnedBy", desc := "(I)I" } : Jvm.MethodName) ({ cls := "ElephantLine$Front", name := "turnedBy", desc := "(I)I" } : Jvm.MethodName)) ∈ lw_all := lw_g (lw_at lw_m6 24 rfl) rfl
theorem q1340 : (Jvm.Cond.code ({ cls := "ElephantLine$Front", name := "turnedBy", desc := "(I)I" } : Jvm.MethodName) prog_7_method_18_code (5 : Nat) (Option.some Jvm.ClassFile.FieldType.int)) ∈ lw_all := lw_g (lw_at lw_m6 25 rfl) rfl
theorem q1341 : (Jvm.Cond.methodLink "ElephantLine$Front" (140 : Nat) ({ cls := "java/lang/Math", name := "abs", desc := "(I)I" } : Jvm.MethodName)) ∈ lw_all := lw_g (lw_at lw_m6 26 rfl) rfl
theorem q1379 : (Jvm.Cond.instanceMethod ({ cls := "ElephantLine$Front", name := "fights", desc := "()V" } : Jvm.MethodName)) ∈ lw_all := lw_g (lw_at lw_m6 64 rfl) rfl
theorem q1380 : (Jvm.Cond.selects "ElephantLine$Front" ({ cls := "ElephantLine$Front", name := "fights", desc := "()V" } : Jvm.MethodName) ({ cls := "ElephantLine$Front", name := "fights", desc := "()V" } : Jvm.MethodName)) ∈ lw_all := lw_g (lw_at lw_m6 65 rfl) rfl
theorem q1381 : (Jvm.Cond.code ({ cls := "ElephantLine$Front", name := "fights", desc := "()V" } : Jvm.MethodName) prog_7_method_17_code (4 : Nat) (Option.none : Option Jvm.ClassFile.FieldType)) ∈ lw_all := lw_g (lw_at lw_m6 66 rfl) rfl
theorem q1382 : (Jvm.Cond.methodLink "ElephantLine$Front" (134 : Nat) ({ cls := "ElephantLine$Front", name := "holds", desc := "(I)Z" } : Jvm.MethodName)) ∈ lw_all := lw_g (lw_at lw_m6 67 rfl) rfl
theorem q1383 : (Jvm.Cond.privateMethod ({ cls := "ElephantLine$Front", name := "holds", desc := "(I)Z" } : Jvm.MethodName)) ∈ lw_tbl := lw_at lw_m6 68 rfl
theorem q1384 : (Jvm.Cond.instanceMethod ({ cls := "ElephantLine$Front", name := "holds", desc := "(I)Z" } : Jvm.MethodName)) ∈ lw_all := lw_g (lw_at lw_m6 69 rfl) rfl
theorem q1385 : (Jvm.Cond.code ({ cls := "ElephantLine$Front", name := "holds", desc := "(I)Z" } : Jvm.MethodName) prog_7_method_16_code (4 : Nat) (Option.some Jvm.ClassFile.FieldType.boolean)) ∈ lw_all := lw_g (lw_at lw_m6 70 rfl) rfl
theorem q1386 : (Jvm.Cond.constant "ElephantLine$Front" (127 : Nat) (65537 : Int32)) ∈ lw_all := lw_g (lw_at lw_m6 71 rfl) rfl
theorem q1387 : (Jvm.Cond.methodLink "ElephantLine$Front" (137 : Nat) ({ cls := "ElephantLine$Stand", name := "left", desc := "(II)I" } : Jvm.MethodName)) ∈ lw_all := lw_g (lw_at lw_m6 72 rfl) rfl
theorem q2255 : (Jvm.Cond.castable "ElephantLine$Front" "java/lang/Object") ∈ lw_tbl := lw_at lw_m9 220 rfl
theorem in_X4 : ∀ w ∈ wsX40, w ∈ lw_all := lw_in wsX40 [292, 294, 296, 298, 300, 302, 304, 306, 308, 310] (by decide +kernel) (by decide +kernel)
/-! ElephantLine$Placing -/
set_option maxRecDepth 100000
def RX5 : String := "ElephantLine$Placing"
def TX5 : u_T := fun k => match k with
  | 0 => ("ElephantLine$Placing", "now", "[I", true)
  | 1 => ("ElephantLine$Placing", "best", "[I", true)
  | 2 => ("ElephantLine$Placing", "war", "LElephantLine$War;", false)
  | 3 => ("ElephantLine$Placing", "front", "LElephantLine$Front;", false)
  | 4 => ("ElephantLine$Placing", "any", "Z", false)
  | _ => ("ElephantLine$Placing", "most", "J", false)
def tyX5 : Nat → FieldType := fun k => match k with
  | 0 => .array .int
  | 1 => .array .int
  | 2 => .object "ElephantLine$War"
  | 3 => .object "ElephantLine$Front"
  | 4 => .boolean
  | _ => .long
abbrev wsX50 : List Cond := u_ws RX5 TX5 6
theorem nmX5 : ∀ a, a < 6 → ∀ b, b < 6 → a ≠ b → (TX5 a).2.1 ≠ (TX5 b).2.1 := by decide +kernel
theorem tyX5_ok : ∀ k, k < 6 → parseFieldDescriptor (TX5 k).2.2.1 = some (tyX5 k) := by decide +kernel
abbrev cX5_init : ByteArray := prog_13_method_1_code
def yX5_init : MethodName := ⟨RX5, "<init>", "()V"⟩
def dkwX5_init_0 : List UInt8 := [42, 183, 0, 3, 42, 8, 188, 10, 181, 0, 9, 42, 8, 188, 10, 181, 0, 15, 177]
abbrev dktX5_init_0 : List UInt8 := dkwX5_init_0 ++ []
theorem dksX5_init_0 : cX5_init.data.toList.drop 0 = dktX5_init_0 := by decide +kernel
theorem dX5_init_0 : decode cX5_init 0 = .ok (.aload_n 0, 1) := dk_42 (dk_at dksX5_init_0 0 rfl rfl)
theorem dX5_init_1 : decode cX5_init 1 = .ok (.invokespecial 3, 3) := dk_183 0 3 (dk_at dksX5_init_0 1 rfl rfl)
theorem dX5_init_4 : decode cX5_init 4 = .ok (.aload_n 0, 1) := dk_42 (dk_at dksX5_init_0 4 rfl rfl)
theorem dX5_init_5 : decode cX5_init 5 = .ok (.iconst 5, 1) := dk_8 (dk_at dksX5_init_0 5 rfl rfl)
theorem dX5_init_6 : decode cX5_init 6 = .ok (.newarray .int, 2) := dk_188_10 (dk_at dksX5_init_0 6 rfl rfl)
theorem dX5_init_8 : decode cX5_init 8 = .ok (.putfield 9, 3) := dk_181 0 9 (dk_at dksX5_init_0 8 rfl rfl)
theorem dX5_init_11 : decode cX5_init 11 = .ok (.aload_n 0, 1) := dk_42 (dk_at dksX5_init_0 11 rfl rfl)
theorem dX5_init_12 : decode cX5_init 12 = .ok (.iconst 5, 1) := dk_8 (dk_at dksX5_init_0 12 rfl rfl)
theorem dX5_init_13 : decode cX5_init 13 = .ok (.newarray .int, 2) := dk_188_10 (dk_at dksX5_init_0 13 rfl rfl)
theorem dX5_init_15 : decode cX5_init 15 = .ok (.putfield 15, 3) := dk_181 0 15 (dk_at dksX5_init_0 15 rfl rfl)
theorem dX5_init_18 : decode cX5_init 18 = .ok (.return_, 1) := dk_177 (dk_at dksX5_init_0 18 rfl rfl)
abbrev cX5_seek : ByteArray := prog_13_method_2_code
def yX5_seek : MethodName := ⟨RX5, "seek", "(LElephantLine$War;LElephantLine$Front;)V"⟩
def dkwX5_seek_1 : List UInt8 := [182, 0, 34, 177]
abbrev dktX5_seek_1 : List UInt8 := dkwX5_seek_1 ++ []
def dkwX5_seek_0 : List UInt8 := [42, 43, 181, 0, 18, 42, 44, 181, 0, 22, 42, 3, 181, 0, 26, 42, 9, 181, 0, 30, 42, 3, 3, 9]
abbrev dktX5_seek_0 : List UInt8 := dkwX5_seek_0 ++ dktX5_seek_1
theorem dksX5_seek_0 : cX5_seek.data.toList.drop 0 = dktX5_seek_0 := by decide +kernel
theorem dksX5_seek_1 : cX5_seek.data.toList.drop 24 = dktX5_seek_1 := dk_seg dksX5_seek_0 24 rfl rfl
theorem dX5_seek_0 : decode cX5_seek 0 = .ok (.aload_n 0, 1) := dk_42 (dk_at dksX5_seek_0 0 rfl rfl)
theorem dX5_seek_1 : decode cX5_seek 1 = .ok (.aload_n 1, 1) := dk_43 (dk_at dksX5_seek_0 1 rfl rfl)
theorem dX5_seek_2 : decode cX5_seek 2 = .ok (.putfield 18, 3) := dk_181 0 18 (dk_at dksX5_seek_0 2 rfl rfl)
theorem dX5_seek_5 : decode cX5_seek 5 = .ok (.aload_n 0, 1) := dk_42 (dk_at dksX5_seek_0 5 rfl rfl)
theorem dX5_seek_6 : decode cX5_seek 6 = .ok (.aload_n 2, 1) := dk_44 (dk_at dksX5_seek_0 6 rfl rfl)
theorem dX5_seek_7 : decode cX5_seek 7 = .ok (.putfield 22, 3) := dk_181 0 22 (dk_at dksX5_seek_0 7 rfl rfl)
theorem dX5_seek_10 : decode cX5_seek 10 = .ok (.aload_n 0, 1) := dk_42 (dk_at dksX5_seek_0 10 rfl rfl)
theorem dX5_seek_11 : decode cX5_seek 11 = .ok (.iconst 0, 1) := dk_3 (dk_at dksX5_seek_0 11 rfl rfl)
theorem dX5_seek_12 : decode cX5_seek 12 = .ok (.putfield 26, 3) := dk_181 0 26 (dk_at dksX5_seek_0 12 rfl rfl)
theorem dX5_seek_15 : decode cX5_seek 15 = .ok (.aload_n 0, 1) := dk_42 (dk_at dksX5_seek_0 15 rfl rfl)
theorem dX5_seek_16 : decode cX5_seek 16 = .ok (.lconst 0, 1) := dk_9 (dk_at dksX5_seek_0 16 rfl rfl)
theorem dX5_seek_17 : decode cX5_seek 17 = .ok (.putfield 30, 3) := dk_181 0 30 (dk_at dksX5_seek_0 17 rfl rfl)
theorem dX5_seek_20 : decode cX5_seek 20 = .ok (.aload_n 0, 1) := dk_42 (dk_at dksX5_seek_0 20 rfl rfl)
theorem dX5_seek_21 : decode cX5_seek 21 = .ok (.iconst 0, 1) := dk_3 (dk_at dksX5_seek_0 21 rfl rfl)
theorem dX5_seek_22 : decode cX5_seek 22 = .ok (.iconst 0, 1) := dk_3 (dk_at dksX5_seek_0 22 rfl rfl)
theorem dX5_seek_23 : decode cX5_seek 23 = .ok (.lconst 0, 1) := dk_9 (dk_at dksX5_seek_0 23 rfl rfl)
theorem dX5_seek_24 : decode cX5_seek 24 = .ok (.invokevirtual 34, 3) := dk_182 0 34 (dk_at dksX5_seek_1 0 rfl rfl)
theorem dX5_seek_27 : decode cX5_seek 27 = .ok (.return_, 1) := dk_177 (dk_at dksX5_seek_1 3 rfl rfl)
abbrev cX5_tries : ByteArray := prog_13_method_3_code
def yX5_tries : MethodName := ⟨RX5, "tries", "(IIJ)V"⟩
def dkwX5_tries_6 : List UInt8 := [182, 0, 34, 177]
abbrev dktX5_tries_6 : List UInt8 := dkwX5_tries_6 ++ []
def dkwX5_tries_5 : List UInt8 := [97, 182, 0, 34, 132, 5, 1, 167, 255, 185, 42, 180, 0, 9, 27, 16, 254, 79, 42, 27, 4, 96, 28, 33]
abbrev dktX5_tries_5 : List UInt8 := dkwX5_tries_5 ++ dktX5_tries_6
def dkwX5_tries_4 : List UInt8 := [21, 5, 79, 42, 27, 4, 96, 28, 4, 21, 5, 120, 128, 33, 42, 180, 0, 22, 27, 21, 5, 182, 0, 63]
abbrev dktX5_tries_4 : List UInt8 := dkwX5_tries_4 ++ dktX5_tries_5
def dkwX5_tries_3 : List UInt8 := [27, 182, 0, 53, 154, 0, 54, 28, 21, 5, 184, 0, 59, 153, 0, 6, 167, 0, 36, 42, 180, 0, 9, 27]
abbrev dktX5_tries_3 : List UInt8 := dkwX5_tries_3 ++ dktX5_tries_4
def dkwX5_tries_2 : List UInt8 := [8, 184, 0, 44, 177, 3, 54, 5, 21, 5, 42, 180, 0, 18, 180, 0, 50, 162, 0, 65, 42, 180, 0, 22]
abbrev dktX5_tries_2 : List UInt8 := dkwX5_tries_2 ++ dktX5_tries_3
def dkwX5_tries_1 : List UInt8 := [157, 0, 4, 177, 42, 4, 181, 0, 26, 42, 33, 181, 0, 30, 42, 180, 0, 9, 3, 42, 180, 0, 15, 3]
abbrev dktX5_tries_1 : List UInt8 := dkwX5_tries_1 ++ dktX5_tries_2
def dkwX5_tries_0 : List UInt8 := [27, 42, 180, 0, 18, 180, 0, 38, 160, 0, 45, 42, 180, 0, 26, 153, 0, 13, 33, 42, 180, 0, 30, 148]
abbrev dktX5_tries_0 : List UInt8 := dkwX5_tries_0 ++ dktX5_tries_1
theorem dksX5_tries_0 : cX5_tries.data.toList.drop 0 = dktX5_tries_0 := by decide +kernel
theorem dksX5_tries_1 : cX5_tries.data.toList.drop 24 = dktX5_tries_1 := dk_seg dksX5_tries_0 24 rfl rfl
theorem dksX5_tries_2 : cX5_tries.data.toList.drop 48 = dktX5_tries_2 := dk_seg dksX5_tries_1 24 rfl rfl
theorem dksX5_tries_3 : cX5_tries.data.toList.drop 72 = dktX5_tries_3 := dk_seg dksX5_tries_2 24 rfl rfl
theorem dksX5_tries_4 : cX5_tries.data.toList.drop 96 = dktX5_tries_4 := dk_seg dksX5_tries_3 24 rfl rfl
theorem dksX5_tries_5 : cX5_tries.data.toList.drop 120 = dktX5_tries_5 := dk_seg dksX5_tries_4 24 rfl rfl
theorem dksX5_tries_6 : cX5_tries.data.toList.drop 144 = dktX5_tries_6 := dk_seg dksX5_tries_5 24 rfl rfl
theorem dX5_tries_0 : decode cX5_tries 0 = .ok (.iload_n 1, 1) := dk_27 (dk_at dksX5_tries_0 0 rfl rfl)
theorem dX5_tries_1 : decode cX5_tries 1 = .ok (.aload_n 0, 1) := dk_42 (dk_at dksX5_tries_0 1 rfl rfl)
theorem dX5_tries_2 : decode cX5_tries 2 = .ok (.getfield 18, 3) := dk_180 0 18 (dk_at dksX5_tries_0 2 rfl rfl)
theorem dX5_tries_5 : decode cX5_tries 5 = .ok (.getfield 38, 3) := dk_180 0 38 (dk_at dksX5_tries_0 5 rfl rfl)
theorem dX5_tries_8 : decode cX5_tries 8 = .ok (.if_icmp .ne 45, 3) := dk_160 0 45 (dk_at dksX5_tries_0 8 rfl rfl)
theorem dX5_tries_11 : decode cX5_tries 11 = .ok (.aload_n 0, 1) := dk_42 (dk_at dksX5_tries_0 11 rfl rfl)
theorem dX5_tries_12 : decode cX5_tries 12 = .ok (.getfield 26, 3) := dk_180 0 26 (dk_at dksX5_tries_0 12 rfl rfl)
theorem dX5_tries_15 : decode cX5_tries 15 = .ok (.ifCond .eq 13, 3) := dk_153 0 13 (dk_at dksX5_tries_0 15 rfl rfl)
theorem dX5_tries_18 : decode cX5_tries 18 = .ok (.lload_n 3, 1) := dk_33 (dk_at dksX5_tries_0 18 rfl rfl)
theorem dX5_tries_19 : decode cX5_tries 19 = .ok (.aload_n 0, 1) := dk_42 (dk_at dksX5_tries_0 19 rfl rfl)
theorem dX5_tries_20 : decode cX5_tries 20 = .ok (.getfield 30, 3) := dk_180 0 30 (dk_at dksX5_tries_0 20 rfl rfl)
theorem dX5_tries_23 : decode cX5_tries 23 = .ok (.lcmp, 1) := dk_148 (dk_at dksX5_tries_0 23 rfl rfl)
theorem dX5_tries_24 : decode cX5_tries 24 = .ok (.ifCond .gt 4, 3) := dk_157 0 4 (dk_at dksX5_tries_1 0 rfl rfl)
theorem dX5_tries_27 : decode cX5_tries 27 = .ok (.return_, 1) := dk_177 (dk_at dksX5_tries_1 3 rfl rfl)
theorem dX5_tries_28 : decode cX5_tries 28 = .ok (.aload_n 0, 1) := dk_42 (dk_at dksX5_tries_1 4 rfl rfl)
theorem dX5_tries_29 : decode cX5_tries 29 = .ok (.iconst 1, 1) := dk_4 (dk_at dksX5_tries_1 5 rfl rfl)
theorem dX5_tries_30 : decode cX5_tries 30 = .ok (.putfield 26, 3) := dk_181 0 26 (dk_at dksX5_tries_1 6 rfl rfl)
theorem dX5_tries_33 : decode cX5_tries 33 = .ok (.aload_n 0, 1) := dk_42 (dk_at dksX5_tries_1 9 rfl rfl)
theorem dX5_tries_34 : decode cX5_tries 34 = .ok (.lload_n 3, 1) := dk_33 (dk_at dksX5_tries_1 10 rfl rfl)
theorem dX5_tries_35 : decode cX5_tries 35 = .ok (.putfield 30, 3) := dk_181 0 30 (dk_at dksX5_tries_1 11 rfl rfl)
theorem dX5_tries_38 : decode cX5_tries 38 = .ok (.aload_n 0, 1) := dk_42 (dk_at dksX5_tries_1 14 rfl rfl)
theorem dX5_tries_39 : decode cX5_tries 39 = .ok (.getfield 9, 3) := dk_180 0 9 (dk_at dksX5_tries_1 15 rfl rfl)
theorem dX5_tries_42 : decode cX5_tries 42 = .ok (.iconst 0, 1) := dk_3 (dk_at dksX5_tries_1 18 rfl rfl)
theorem dX5_tries_43 : decode cX5_tries 43 = .ok (.aload_n 0, 1) := dk_42 (dk_at dksX5_tries_1 19 rfl rfl)
theorem dX5_tries_44 : decode cX5_tries 44 = .ok (.getfield 15, 3) := dk_180 0 15 (dk_at dksX5_tries_1 20 rfl rfl)
theorem dX5_tries_47 : decode cX5_tries 47 = .ok (.iconst 0, 1) := dk_3 (dk_at dksX5_tries_1 23 rfl rfl)
theorem dX5_tries_48 : decode cX5_tries 48 = .ok (.iconst 5, 1) := dk_8 (dk_at dksX5_tries_2 0 rfl rfl)
theorem dX5_tries_49 : decode cX5_tries 49 = .ok (.invokestatic 44, 3) := dk_184 0 44 (dk_at dksX5_tries_2 1 rfl rfl)
theorem dX5_tries_52 : decode cX5_tries 52 = .ok (.return_, 1) := dk_177 (dk_at dksX5_tries_2 4 rfl rfl)
theorem dX5_tries_53 : decode cX5_tries 53 = .ok (.iconst 0, 1) := dk_3 (dk_at dksX5_tries_2 5 rfl rfl)
theorem dX5_tries_54 : decode cX5_tries 54 = .ok (.istore 5, 2) := dk_54 5 (dk_at dksX5_tries_2 6 rfl rfl)
theorem dX5_tries_56 : decode cX5_tries 56 = .ok (.iload 5, 2) := dk_21 5 (dk_at dksX5_tries_2 8 rfl rfl)
theorem dX5_tries_58 : decode cX5_tries 58 = .ok (.aload_n 0, 1) := dk_42 (dk_at dksX5_tries_2 10 rfl rfl)
theorem dX5_tries_59 : decode cX5_tries 59 = .ok (.getfield 18, 3) := dk_180 0 18 (dk_at dksX5_tries_2 11 rfl rfl)
theorem dX5_tries_62 : decode cX5_tries 62 = .ok (.getfield 50, 3) := dk_180 0 50 (dk_at dksX5_tries_2 14 rfl rfl)
theorem dX5_tries_65 : decode cX5_tries 65 = .ok (.if_icmp .ge 65, 3) := dk_162 0 65 (dk_at dksX5_tries_2 17 rfl rfl)
theorem dX5_tries_68 : decode cX5_tries 68 = .ok (.aload_n 0, 1) := dk_42 (dk_at dksX5_tries_2 20 rfl rfl)
theorem dX5_tries_69 : decode cX5_tries 69 = .ok (.getfield 22, 3) := dk_180 0 22 (dk_at dksX5_tries_2 21 rfl rfl)
theorem dX5_tries_72 : decode cX5_tries 72 = .ok (.iload_n 1, 1) := dk_27 (dk_at dksX5_tries_3 0 rfl rfl)
theorem dX5_tries_73 : decode cX5_tries 73 = .ok (.invokevirtual 53, 3) := dk_182 0 53 (dk_at dksX5_tries_3 1 rfl rfl)
theorem dX5_tries_76 : decode cX5_tries 76 = .ok (.ifCond .ne 54, 3) := dk_154 0 54 (dk_at dksX5_tries_3 4 rfl rfl)
theorem dX5_tries_79 : decode cX5_tries 79 = .ok (.iload_n 2, 1) := dk_28 (dk_at dksX5_tries_3 7 rfl rfl)
theorem dX5_tries_80 : decode cX5_tries 80 = .ok (.iload 5, 2) := dk_21 5 (dk_at dksX5_tries_3 8 rfl rfl)
theorem dX5_tries_82 : decode cX5_tries 82 = .ok (.invokestatic 59, 3) := dk_184 0 59 (dk_at dksX5_tries_3 10 rfl rfl)
theorem dX5_tries_85 : decode cX5_tries 85 = .ok (.ifCond .eq 6, 3) := dk_153 0 6 (dk_at dksX5_tries_3 13 rfl rfl)
theorem dX5_tries_88 : decode cX5_tries 88 = .ok (.goto 36, 3) := dk_167 0 36 (dk_at dksX5_tries_3 16 rfl rfl)
theorem dX5_tries_91 : decode cX5_tries 91 = .ok (.aload_n 0, 1) := dk_42 (dk_at dksX5_tries_3 19 rfl rfl)
theorem dX5_tries_92 : decode cX5_tries 92 = .ok (.getfield 9, 3) := dk_180 0 9 (dk_at dksX5_tries_3 20 rfl rfl)
theorem dX5_tries_95 : decode cX5_tries 95 = .ok (.iload_n 1, 1) := dk_27 (dk_at dksX5_tries_3 23 rfl rfl)
theorem dX5_tries_96 : decode cX5_tries 96 = .ok (.iload 5, 2) := dk_21 5 (dk_at dksX5_tries_4 0 rfl rfl)
theorem dX5_tries_98 : decode cX5_tries 98 = .ok (.iastore, 1) := dk_79 (dk_at dksX5_tries_4 2 rfl rfl)
theorem dX5_tries_99 : decode cX5_tries 99 = .ok (.aload_n 0, 1) := dk_42 (dk_at dksX5_tries_4 3 rfl rfl)
theorem dX5_tries_100 : decode cX5_tries 100 = .ok (.iload_n 1, 1) := dk_27 (dk_at dksX5_tries_4 4 rfl rfl)
theorem dX5_tries_101 : decode cX5_tries 101 = .ok (.iconst 1, 1) := dk_4 (dk_at dksX5_tries_4 5 rfl rfl)
theorem dX5_tries_102 : decode cX5_tries 102 = .ok (.iadd, 1) := dk_96 (dk_at dksX5_tries_4 6 rfl rfl)
theorem dX5_tries_103 : decode cX5_tries 103 = .ok (.iload_n 2, 1) := dk_28 (dk_at dksX5_tries_4 7 rfl rfl)
theorem dX5_tries_104 : decode cX5_tries 104 = .ok (.iconst 1, 1) := dk_4 (dk_at dksX5_tries_4 8 rfl rfl)
theorem dX5_tries_105 : decode cX5_tries 105 = .ok (.iload 5, 2) := dk_21 5 (dk_at dksX5_tries_4 9 rfl rfl)
theorem dX5_tries_107 : decode cX5_tries 107 = .ok (.ishl, 1) := dk_120 (dk_at dksX5_tries_4 11 rfl rfl)
theorem dX5_tries_108 : decode cX5_tries 108 = .ok (.ior, 1) := dk_128 (dk_at dksX5_tries_4 12 rfl rfl)
theorem dX5_tries_109 : decode cX5_tries 109 = .ok (.lload_n 3, 1) := dk_33 (dk_at dksX5_tries_4 13 rfl rfl)
theorem dX5_tries_110 : decode cX5_tries 110 = .ok (.aload_n 0, 1) := dk_42 (dk_at dksX5_tries_4 14 rfl rfl)
theorem dX5_tries_111 : decode cX5_tries 111 = .ok (.getfield 22, 3) := dk_180 0 22 (dk_at dksX5_tries_4 15 rfl rfl)
theorem dX5_tries_114 : decode cX5_tries 114 = .ok (.iload_n 1, 1) := dk_27 (dk_at dksX5_tries_4 18 rfl rfl)
theorem dX5_tries_115 : decode cX5_tries 115 = .ok (.iload 5, 2) := dk_21 5 (dk_at dksX5_tries_4 19 rfl rfl)
theorem dX5_tries_117 : decode cX5_tries 117 = .ok (.invokevirtual 63, 3) := dk_182 0 63 (dk_at dksX5_tries_4 21 rfl rfl)
theorem dX5_tries_120 : decode cX5_tries 120 = .ok (.ladd, 1) := dk_97 (dk_at dksX5_tries_5 0 rfl rfl)
theorem dX5_tries_121 : decode cX5_tries 121 = .ok (.invokevirtual 34, 3) := dk_182 0 34 (dk_at dksX5_tries_5 1 rfl rfl)
theorem dX5_tries_124 : decode cX5_tries 124 = .ok (.iinc 5 1, 3) := dk_132 5 1 (dk_at dksX5_tries_5 4 rfl rfl)
theorem dX5_tries_127 : decode cX5_tries 127 = .ok (.goto (-71), 3) := dk_167 255 185 (dk_at dksX5_tries_5 7 rfl rfl)
theorem dX5_tries_130 : decode cX5_tries 130 = .ok (.aload_n 0, 1) := dk_42 (dk_at dksX5_tries_5 10 rfl rfl)
theorem dX5_tries_131 : decode cX5_tries 131 = .ok (.getfield 9, 3) := dk_180 0 9 (dk_at dksX5_tries_5 11 rfl rfl)
theorem dX5_tries_134 : decode cX5_tries 134 = .ok (.iload_n 1, 1) := dk_27 (dk_at dksX5_tries_5 14 rfl rfl)
theorem dX5_tries_135 : decode cX5_tries 135 = .ok (.bipush (-2), 2) := dk_16 254 (dk_at dksX5_tries_5 15 rfl rfl)
theorem dX5_tries_137 : decode cX5_tries 137 = .ok (.iastore, 1) := dk_79 (dk_at dksX5_tries_5 17 rfl rfl)
theorem dX5_tries_138 : decode cX5_tries 138 = .ok (.aload_n 0, 1) := dk_42 (dk_at dksX5_tries_5 18 rfl rfl)
theorem dX5_tries_139 : decode cX5_tries 139 = .ok (.iload_n 1, 1) := dk_27 (dk_at dksX5_tries_5 19 rfl rfl)
theorem dX5_tries_140 : decode cX5_tries 140 = .ok (.iconst 1, 1) := dk_4 (dk_at dksX5_tries_5 20 rfl rfl)
theorem dX5_tries_141 : decode cX5_tries 141 = .ok (.iadd, 1) := dk_96 (dk_at dksX5_tries_5 21 rfl rfl)
theorem dX5_tries_142 : decode cX5_tries 142 = .ok (.iload_n 2, 1) := dk_28 (dk_at dksX5_tries_5 22 rfl rfl)
theorem dX5_tries_143 : decode cX5_tries 143 = .ok (.lload_n 3, 1) := dk_33 (dk_at dksX5_tries_5 23 rfl rfl)
theorem dX5_tries_144 : decode cX5_tries 144 = .ok (.invokevirtual 34, 3) := dk_182 0 34 (dk_at dksX5_tries_6 0 rfl rfl)
theorem dX5_tries_147 : decode cX5_tries 147 = .ok (.return_, 1) := dk_177 (dk_at dksX5_tries_6 3 rfl rfl)
abbrev cX5_at : ByteArray := prog_13_method_4_code
def yX5_at : MethodName := ⟨RX5, "at", "(I)I"⟩
def dkwX5_at_0 : List UInt8 := [42, 180, 0, 15, 27, 46, 172]
abbrev dktX5_at_0 : List UInt8 := dkwX5_at_0 ++ []
theorem dksX5_at_0 : cX5_at.data.toList.drop 0 = dktX5_at_0 := by decide +kernel
theorem dX5_at_0 : decode cX5_at 0 = .ok (.aload_n 0, 1) := dk_42 (dk_at dksX5_at_0 0 rfl rfl)
theorem dX5_at_1 : decode cX5_at 1 = .ok (.getfield 15, 3) := dk_180 0 15 (dk_at dksX5_at_0 1 rfl rfl)
theorem dX5_at_4 : decode cX5_at 4 = .ok (.iload_n 1, 1) := dk_27 (dk_at dksX5_at_0 4 rfl rfl)
theorem dX5_at_5 : decode cX5_at 5 = .ok (.iaload, 1) := dk_46 (dk_at dksX5_at_0 5 rfl rfl)
theorem dX5_at_6 : decode cX5_at 6 = .ok (.ireturn, 1) := dk_172 (dk_at dksX5_at_0 6 rfl rfl)
theorem q123 : (Jvm.Cond.initialized "ElephantLine$Placing") ∈ lw_all := lw_g (lw_at lw_m1 8 rfl) rfl
theorem q315 : (Jvm.Cond.instantiable "ElephantLine$Placing" (6 : Nat)) ∈ lw_all := lw_g (lw_at lw_m1 200 rfl) rfl
theorem q317 : (Jvm.Cond.instanceMethod ({ cls := "ElephantLine$Placing", name := "<init>", desc := "()V" } : Jvm.MethodName)) ∈ lw_all := lw_g (lw_at lw_m1 202 rfl) rfl
theorem q318 : (Jvm.Cond.code ({ cls := "ElephantLine$Placing", name := "<init>", desc := "()V" } : Jvm.MethodName) prog_13_method_1_code (1 : Nat) (Option.none : Option Jvm.ClassFile.FieldType)) ∈ lw_all := lw_g (lw_at lw_m1 203 rfl) rfl
theorem q319 : (Jvm.Cond.methodLink "ElephantLine$Placing" (3 : Nat) ({ cls := "java/lang/Object", name := "<init>", desc := "()V" } : Jvm.MethodName)) ∈ lw_all := lw_g (lw_at lw_m1 204 rfl) rfl
theorem q320 : (Jvm.Cond.fieldLink "ElephantLine$Placing" (9 : Nat) "ElephantLine$Placing" "now" "[I") ∈ lw_all := lw_g (lw_at lw_m1 205 rfl) rfl
theorem q321 : (Jvm.Cond.fieldLink "ElephantLine$Placing" (15 : Nat) "ElephantLine$Placing" "best" "[I") ∈ lw_all := lw_g (lw_at lw_m1 206 rfl) rfl
theorem q322 : (Jvm.Cond.fieldLink "ElephantLine$Placing" (18 : Nat) "ElephantLine$Placing" "war" "LElephantLine$War;") ∈ lw_all := lw_g (lw_at lw_m1 207 rfl) rfl
theorem q323 : (Jvm.Cond.fieldLink "ElephantLine$Placing" (22 : Nat) "ElephantLine$Placing" "front" "LElephantLine$Front;") ∈ lw_all := lw_g (lw_at lw_m1 208 rfl) rfl
theorem q324 : (Jvm.Cond.fieldLink "ElephantLine$Placing" (26 : Nat) "ElephantLine$Placing" "any" "Z") ∈ lw_all := lw_g (lw_at lw_m1 209 rfl) rfl
theorem q325 : (Jvm.Cond.fieldLink "ElephantLine$Placing" (30 : Nat) "ElephantLine$Placing" "most" "J") ∈ lw_all := lw_g (lw_at lw_m1 210 rfl) rfl
theorem q327 : (Jvm.Cond.laysFinal "ElephantLine$Placing" "ElephantLine$Placing" "now" "[I") ∈ lw_all := lw_g (lw_at lw_m1 212 rfl) rfl
theorem q328 : (Jvm.Cond.soleField "ElephantLine$Placing" "now") ∈ lw_all := lw_g (lw_at lw_m1 213 rfl) rfl
theorem q329 : (Jvm.Cond.laysFinal "ElephantLine$Placing" "ElephantLine$Placing" "best" "[I") ∈ lw_all := lw_g (lw_at lw_m1 214 rfl) rfl
theorem q330 : (Jvm.Cond.soleField "ElephantLine$Placing" "best") ∈ lw_all := lw_g (lw_at lw_m1 215 rfl) rfl
theorem q331 : (Jvm.Cond.lays "ElephantLine$Placing" "ElephantLine$Placing" "war" "LElephantLine$War;") ∈ lw_all := lw_g (lw_at lw_m1 216 rfl) rfl
theorem q332 : (Jvm.Cond.soleField "ElephantLine$Placing" "war") ∈ lw_all := lw_g (lw_at lw_m1 217 rfl) rfl
theorem q333 : (Jvm.Cond.lays "ElephantLine$Placing" "ElephantLine$Placing" "front" "LElephantLine$Front;") ∈ lw_all := lw_g (lw_at lw_m1 218 rfl) rfl
theorem q334 : (Jvm.Cond.soleField "ElephantLine$Placing" "front") ∈ lw_all := lw_g (lw_at lw_m1 219 rfl) rfl
theorem q335 : (Jvm.Cond.lays "ElephantLine$Placing" "ElephantLine$Placing" "any" "Z") ∈ lw_all := lw_g (lw_at lw_m1 220 rfl) rfl
theorem q336 : (Jvm.Cond.soleField "ElephantLine$Placing" "any") ∈ lw_all := lw_g (lw_at lw_m1 221 rfl) rfl
theorem q337 : (Jvm.Cond.lays "ElephantLine$Placing" "ElephantLine$Placing" "most" "J") ∈ lw_all := lw_g (lw_at lw_m1 222 rfl) rfl
theorem q338 : (Jvm.Cond.soleField "ElephantLine$Placing" "most") ∈ lw_all := lw_g (lw_at lw_m1 223 rfl) rfl
theorem q339 : (Jvm.Cond.superclass "ElephantLine$Placing" "java/lang/Object") ∈ lw_all := lw_g (lw_at lw_m1 224 rfl) rfl
theorem q494 : (Jvm.Cond.fieldLink "ElephantLine$Placing" (50 : Nat) "ElephantLine$War" "lanes" "I") ∈ lw_all := lw_g (lw_at lw_m2 139 rfl) rfl
theorem q504 : (Jvm.Cond.fieldLink "ElephantLine$Placing" (38 : Nat) "ElephantLine$War" "beastMany" "I") ∈ lw_all := lw_g (lw_at lw_m2 149 rfl) rfl
theorem q1196 : (Jvm.Cond.instanceMethod ({ cls := "ElephantLine$Placing", name := "seek", desc := "(LElephantLine$War;LElephantLine$Front;)V" } : Jvm.MethodName)) ∈ lw_all := lw_g (lw_at lw_m5 121 rfl) rfl
theorem q1197 : (Jvm.Cond.selects "ElephantLine$Placing" ({ cls := "ElephantLine$Placing", name := "seek", desc := "(LElephantLine$War;LElephantLine$Front;)V" } : Jvm.MethodName) ({ cls := "ElephantLine$Placing", name := "seek", desc := "(LElephantLine$War;LElephantLine$Front;)V" } : Jvm.MethodName)) ∈ lw_all := lw_g (lw_at lw_m5 122 rfl) rfl
theorem q1198 : (Jvm.Cond.code ({ cls := "ElephantLine$Placing", name := "seek", desc := "(LElephantLine$War;LElephantLine$Front;)V" } : Jvm.MethodName) prog_13_method_2_code (3 : Nat) (Option.none : Option Jvm.ClassFile.FieldType)) ∈ lw_all := lw_g (lw_at lw_m5 123 rfl) rfl
theorem q1199 : (Jvm.Cond.methodLink "ElephantLine$Placing" (34 : Nat) ({ cls := "ElephantLine$Placing", name := "tries", desc := "(IIJ)V" } : Jvm.MethodName)) ∈ lw_all := lw_g (lw_at lw_m5 124 rfl) rfl
theorem q1200 : (Jvm.Cond.privateMethod ({ cls := "ElephantLine$Placing", name := "tries", desc := "(IIJ)V" } : Jvm.MethodName)) ∈ lw_tbl := lw_at lw_m5 125 rfl
theorem q1201 : (Jvm.Cond.instanceMethod ({ cls := "ElephantLine$Placing", name := "tries", desc := "(IIJ)V" } : Jvm.MethodName)) ∈ lw_all := lw_g (lw_at lw_m5 126 rfl) rfl
theorem q1202 : (Jvm.Cond.code ({ cls := "ElephantLine$Placing", name := "tries", desc := "(IIJ)V" } : Jvm.MethodName) prog_13_method_3_code (6 : Nat) (Option.none : Option Jvm.ClassFile.FieldType)) ∈ lw_all := lw_g (lw_at lw_m5 127 rfl) rfl
theorem q1203 : (Jvm.Cond.methodLink "ElephantLine$Placing" (44 : Nat) ({ cls := "java/lang/System", name := "arraycopy", desc := "(Ljava/lang/Object;ILjava/lang/Object;II)V" } : Jvm.MethodName)) ∈ lw_all := lw_g (lw_at lw_m5 128 rfl) rfl
theorem q1204 : (Jvm.Cond.methodLink "ElephantLine$Placing" (53 : Nat) ({ cls := "ElephantLine$Front", name := "isDead", desc := "(I)Z" } : Jvm.MethodName)) ∈ lw_all := lw_g (lw_at lw_m5 129 rfl) rfl
theorem q1205 : (Jvm.Cond.methodLinkNest "ElephantLine$Placing" (59 : Nat) ({ cls := "ElephantLine", name := "has", desc := "(II)Z" } : Jvm.MethodName) "ElephantLine") ∈ lw_tbl := lw_at lw_m5 130 rfl
theorem q1206 : (Jvm.Cond.methodLink "ElephantLine$Placing" (63 : Nat) ({ cls := "ElephantLine$Front", name := "worth", desc := "(II)J" } : Jvm.MethodName)) ∈ lw_all := lw_g (lw_at lw_m5 131 rfl) rfl
theorem q1208 : (Jvm.Cond.instanceMethod ({ cls := "ElephantLine$Placing", name := "at", desc := "(I)I" } : Jvm.MethodName)) ∈ lw_all := lw_g (lw_at lw_m5 133 rfl) rfl
theorem q1209 : (Jvm.Cond.selects "ElephantLine$Placing" ({ cls := "ElephantLine$Placing", name := "at", desc := "(I)I" } : Jvm.MethodName) ({ cls := "ElephantLine$Placing", name := "at", desc := "(I)I" } : Jvm.MethodName)) ∈ lw_all := lw_g (lw_at lw_m5 134 rfl) rfl
theorem q1210 : (Jvm.Cond.code ({ cls := "ElephantLine$Placing", name := "at", desc := "(I)I" } : Jvm.MethodName) prog_13_method_4_code (2 : Nat) (Option.some Jvm.ClassFile.FieldType.int)) ∈ lw_all := lw_g (lw_at lw_m5 135 rfl) rfl
theorem q2256 : (Jvm.Cond.castable "ElephantLine$Placing" "java/lang/Object") ∈ lw_tbl := lw_at lw_m9 221 rfl
theorem in_X5 : ∀ w ∈ wsX50, w ∈ lw_all := lw_in wsX50 [327, 329, 331, 333, 335, 337] (by decide +kernel) (by decide +kernel)
/-! ElephantLine$Marching -/
set_option maxRecDepth 100000
def RX6 : String := "ElephantLine$Marching"
def TX6 : u_T := fun k => match k with
  | 0 => ("ElephantLine$Marching", "row", "[I", true)
  | 1 => ("ElephantLine$Marching", "best", "[I", true)
  | 2 => ("ElephantLine$Marching", "war", "LElephantLine$War;", false)
  | 3 => ("ElephantLine$Marching", "goal", "I", false)
  | 4 => ("ElephantLine$Marching", "most", "I", false)
  | _ => ("ElephantLine$Marching", "size", "I", false)
def tyX6 : Nat → FieldType := fun k => match k with
  | 0 => .array .int
  | 1 => .array .int
  | 2 => .object "ElephantLine$War"
  | 3 => .int
  | 4 => .int
  | _ => .int
abbrev wsX60 : List Cond := u_ws RX6 TX6 6
theorem nmX6 : ∀ a, a < 6 → ∀ b, b < 6 → a ≠ b → (TX6 a).2.1 ≠ (TX6 b).2.1 := by decide +kernel
theorem tyX6_ok : ∀ k, k < 6 → parseFieldDescriptor (TX6 k).2.2.1 = some (tyX6 k) := by decide +kernel
abbrev cX6_init : ByteArray := prog_10_method_1_code
def yX6_init : MethodName := ⟨RX6, "<init>", "()V"⟩
def dkwX6_init_0 : List UInt8 := [42, 183, 0, 3, 42, 16, 6, 188, 10, 181, 0, 9, 42, 16, 6, 188, 10, 181, 0, 15, 177]
abbrev dktX6_init_0 : List UInt8 := dkwX6_init_0 ++ []
theorem dksX6_init_0 : cX6_init.data.toList.drop 0 = dktX6_init_0 := by decide +kernel
theorem dX6_init_0 : decode cX6_init 0 = .ok (.aload_n 0, 1) := dk_42 (dk_at dksX6_init_0 0 rfl rfl)
theorem dX6_init_1 : decode cX6_init 1 = .ok (.invokespecial 3, 3) := dk_183 0 3 (dk_at dksX6_init_0 1 rfl rfl)
theorem dX6_init_4 : decode cX6_init 4 = .ok (.aload_n 0, 1) := dk_42 (dk_at dksX6_init_0 4 rfl rfl)
theorem dX6_init_5 : decode cX6_init 5 = .ok (.bipush 6, 2) := dk_16 6 (dk_at dksX6_init_0 5 rfl rfl)
theorem dX6_init_7 : decode cX6_init 7 = .ok (.newarray .int, 2) := dk_188_10 (dk_at dksX6_init_0 7 rfl rfl)
theorem dX6_init_9 : decode cX6_init 9 = .ok (.putfield 9, 3) := dk_181 0 9 (dk_at dksX6_init_0 9 rfl rfl)
theorem dX6_init_12 : decode cX6_init 12 = .ok (.aload_n 0, 1) := dk_42 (dk_at dksX6_init_0 12 rfl rfl)
theorem dX6_init_13 : decode cX6_init 13 = .ok (.bipush 6, 2) := dk_16 6 (dk_at dksX6_init_0 13 rfl rfl)
theorem dX6_init_15 : decode cX6_init 15 = .ok (.newarray .int, 2) := dk_188_10 (dk_at dksX6_init_0 15 rfl rfl)
theorem dX6_init_17 : decode cX6_init 17 = .ok (.putfield 15, 3) := dk_181 0 15 (dk_at dksX6_init_0 17 rfl rfl)
theorem dX6_init_20 : decode cX6_init 20 = .ok (.return_, 1) := dk_177 (dk_at dksX6_init_0 20 rfl rfl)
abbrev cX6_seek : ByteArray := prog_10_method_2_code
def yX6_seek : MethodName := ⟨RX6, "seek", "(LElephantLine$War;III)I"⟩
def dkwX6_seek_1 : List UInt8 := [4, 28, 120, 21, 4, 182, 0, 32, 42, 180, 0, 26, 172]
abbrev dktX6_seek_1 : List UInt8 := dkwX6_seek_1 ++ []
def dkwX6_seek_0 : List UInt8 := [42, 43, 181, 0, 18, 42, 29, 181, 0, 22, 42, 16, 254, 181, 0, 26, 42, 3, 181, 0, 29, 42, 3, 28]
abbrev dktX6_seek_0 : List UInt8 := dkwX6_seek_0 ++ dktX6_seek_1
theorem dksX6_seek_0 : cX6_seek.data.toList.drop 0 = dktX6_seek_0 := by decide +kernel
theorem dksX6_seek_1 : cX6_seek.data.toList.drop 24 = dktX6_seek_1 := dk_seg dksX6_seek_0 24 rfl rfl
theorem dX6_seek_0 : decode cX6_seek 0 = .ok (.aload_n 0, 1) := dk_42 (dk_at dksX6_seek_0 0 rfl rfl)
theorem dX6_seek_1 : decode cX6_seek 1 = .ok (.aload_n 1, 1) := dk_43 (dk_at dksX6_seek_0 1 rfl rfl)
theorem dX6_seek_2 : decode cX6_seek 2 = .ok (.putfield 18, 3) := dk_181 0 18 (dk_at dksX6_seek_0 2 rfl rfl)
theorem dX6_seek_5 : decode cX6_seek 5 = .ok (.aload_n 0, 1) := dk_42 (dk_at dksX6_seek_0 5 rfl rfl)
theorem dX6_seek_6 : decode cX6_seek 6 = .ok (.iload_n 3, 1) := dk_29 (dk_at dksX6_seek_0 6 rfl rfl)
theorem dX6_seek_7 : decode cX6_seek 7 = .ok (.putfield 22, 3) := dk_181 0 22 (dk_at dksX6_seek_0 7 rfl rfl)
theorem dX6_seek_10 : decode cX6_seek 10 = .ok (.aload_n 0, 1) := dk_42 (dk_at dksX6_seek_0 10 rfl rfl)
theorem dX6_seek_11 : decode cX6_seek 11 = .ok (.bipush (-2), 2) := dk_16 254 (dk_at dksX6_seek_0 11 rfl rfl)
theorem dX6_seek_13 : decode cX6_seek 13 = .ok (.putfield 26, 3) := dk_181 0 26 (dk_at dksX6_seek_0 13 rfl rfl)
theorem dX6_seek_16 : decode cX6_seek 16 = .ok (.aload_n 0, 1) := dk_42 (dk_at dksX6_seek_0 16 rfl rfl)
theorem dX6_seek_17 : decode cX6_seek 17 = .ok (.iconst 0, 1) := dk_3 (dk_at dksX6_seek_0 17 rfl rfl)
theorem dX6_seek_18 : decode cX6_seek 18 = .ok (.putfield 29, 3) := dk_181 0 29 (dk_at dksX6_seek_0 18 rfl rfl)
theorem dX6_seek_21 : decode cX6_seek 21 = .ok (.aload_n 0, 1) := dk_42 (dk_at dksX6_seek_0 21 rfl rfl)
theorem dX6_seek_22 : decode cX6_seek 22 = .ok (.iconst 0, 1) := dk_3 (dk_at dksX6_seek_0 22 rfl rfl)
theorem dX6_seek_23 : decode cX6_seek 23 = .ok (.iload_n 2, 1) := dk_28 (dk_at dksX6_seek_0 23 rfl rfl)
theorem dX6_seek_24 : decode cX6_seek 24 = .ok (.iconst 1, 1) := dk_4 (dk_at dksX6_seek_1 0 rfl rfl)
theorem dX6_seek_25 : decode cX6_seek 25 = .ok (.iload_n 2, 1) := dk_28 (dk_at dksX6_seek_1 1 rfl rfl)
theorem dX6_seek_26 : decode cX6_seek 26 = .ok (.ishl, 1) := dk_120 (dk_at dksX6_seek_1 2 rfl rfl)
theorem dX6_seek_27 : decode cX6_seek 27 = .ok (.iload 4, 2) := dk_21 4 (dk_at dksX6_seek_1 3 rfl rfl)
theorem dX6_seek_29 : decode cX6_seek 29 = .ok (.invokevirtual 32, 3) := dk_182 0 32 (dk_at dksX6_seek_1 5 rfl rfl)
theorem dX6_seek_32 : decode cX6_seek 32 = .ok (.aload_n 0, 1) := dk_42 (dk_at dksX6_seek_1 8 rfl rfl)
theorem dX6_seek_33 : decode cX6_seek 33 = .ok (.getfield 26, 3) := dk_180 0 26 (dk_at dksX6_seek_1 9 rfl rfl)
theorem dX6_seek_36 : decode cX6_seek 36 = .ok (.ireturn, 1) := dk_172 (dk_at dksX6_seek_1 12 rfl rfl)
abbrev cX6_comes : ByteArray := prog_10_method_3_code
def yX6_comes : MethodName := ⟨RX6, "comes", "(IIII)V"⟩
def dkwX6_comes_5 : List UInt8 := [100, 182, 0, 32, 132, 5, 1, 167, 255, 186, 177]
abbrev dktX6_comes_5 : List UInt8 := dkwX6_comes_5 ++ []
def dkwX6_comes_4 : List UInt8 := [4, 96, 21, 5, 29, 4, 21, 5, 120, 128, 21, 4, 42, 180, 0, 18, 28, 21, 5, 21, 4, 182, 0, 55]
abbrev dktX6_comes_4 : List UInt8 := dkwX6_comes_4 ++ dktX6_comes_5
def dkwX6_comes_3 : List UInt8 := [184, 0, 47, 154, 0, 49, 42, 180, 0, 18, 28, 21, 5, 182, 0, 51, 154, 0, 6, 167, 0, 33, 42, 27]
abbrev dktX6_comes_3 : List UInt8 := dkwX6_comes_3 ++ dktX6_comes_4
def dkwX6_comes_2 : List UInt8 := [16, 6, 184, 0, 36, 177, 3, 54, 5, 21, 5, 42, 180, 0, 18, 180, 0, 42, 162, 0, 64, 29, 21, 5]
abbrev dktX6_comes_2 : List UInt8 := dkwX6_comes_2 ++ dktX6_comes_3
def dkwX6_comes_1 : List UInt8 := [177, 42, 21, 4, 181, 0, 26, 42, 27, 4, 96, 181, 0, 29, 42, 180, 0, 9, 3, 42, 180, 0, 15, 3]
abbrev dktX6_comes_1 : List UInt8 := dkwX6_comes_1 ++ dktX6_comes_2
def dkwX6_comes_0 : List UInt8 := [42, 180, 0, 9, 27, 28, 79, 28, 42, 180, 0, 22, 160, 0, 42, 21, 4, 42, 180, 0, 26, 163, 0, 4]
abbrev dktX6_comes_0 : List UInt8 := dkwX6_comes_0 ++ dktX6_comes_1
theorem dksX6_comes_0 : cX6_comes.data.toList.drop 0 = dktX6_comes_0 := by decide +kernel
theorem dksX6_comes_1 : cX6_comes.data.toList.drop 24 = dktX6_comes_1 := dk_seg dksX6_comes_0 24 rfl rfl
theorem dksX6_comes_2 : cX6_comes.data.toList.drop 48 = dktX6_comes_2 := dk_seg dksX6_comes_1 24 rfl rfl
theorem dksX6_comes_3 : cX6_comes.data.toList.drop 72 = dktX6_comes_3 := dk_seg dksX6_comes_2 24 rfl rfl
theorem dksX6_comes_4 : cX6_comes.data.toList.drop 96 = dktX6_comes_4 := dk_seg dksX6_comes_3 24 rfl rfl
theorem dksX6_comes_5 : cX6_comes.data.toList.drop 120 = dktX6_comes_5 := dk_seg dksX6_comes_4 24 rfl rfl
theorem dX6_comes_0 : decode cX6_comes 0 = .ok (.aload_n 0, 1) := dk_42 (dk_at dksX6_comes_0 0 rfl rfl)
theorem dX6_comes_1 : decode cX6_comes 1 = .ok (.getfield 9, 3) := dk_180 0 9 (dk_at dksX6_comes_0 1 rfl rfl)
theorem dX6_comes_4 : decode cX6_comes 4 = .ok (.iload_n 1, 1) := dk_27 (dk_at dksX6_comes_0 4 rfl rfl)
theorem dX6_comes_5 : decode cX6_comes 5 = .ok (.iload_n 2, 1) := dk_28 (dk_at dksX6_comes_0 5 rfl rfl)
theorem dX6_comes_6 : decode cX6_comes 6 = .ok (.iastore, 1) := dk_79 (dk_at dksX6_comes_0 6 rfl rfl)
theorem dX6_comes_7 : decode cX6_comes 7 = .ok (.iload_n 2, 1) := dk_28 (dk_at dksX6_comes_0 7 rfl rfl)
theorem dX6_comes_8 : decode cX6_comes 8 = .ok (.aload_n 0, 1) := dk_42 (dk_at dksX6_comes_0 8 rfl rfl)
theorem dX6_comes_9 : decode cX6_comes 9 = .ok (.getfield 22, 3) := dk_180 0 22 (dk_at dksX6_comes_0 9 rfl rfl)
theorem dX6_comes_12 : decode cX6_comes 12 = .ok (.if_icmp .ne 42, 3) := dk_160 0 42 (dk_at dksX6_comes_0 12 rfl rfl)
theorem dX6_comes_15 : decode cX6_comes 15 = .ok (.iload 4, 2) := dk_21 4 (dk_at dksX6_comes_0 15 rfl rfl)
theorem dX6_comes_17 : decode cX6_comes 17 = .ok (.aload_n 0, 1) := dk_42 (dk_at dksX6_comes_0 17 rfl rfl)
theorem dX6_comes_18 : decode cX6_comes 18 = .ok (.getfield 26, 3) := dk_180 0 26 (dk_at dksX6_comes_0 18 rfl rfl)
theorem dX6_comes_21 : decode cX6_comes 21 = .ok (.if_icmp .gt 4, 3) := dk_163 0 4 (dk_at dksX6_comes_0 21 rfl rfl)
theorem dX6_comes_24 : decode cX6_comes 24 = .ok (.return_, 1) := dk_177 (dk_at dksX6_comes_1 0 rfl rfl)
theorem dX6_comes_25 : decode cX6_comes 25 = .ok (.aload_n 0, 1) := dk_42 (dk_at dksX6_comes_1 1 rfl rfl)
theorem dX6_comes_26 : decode cX6_comes 26 = .ok (.iload 4, 2) := dk_21 4 (dk_at dksX6_comes_1 2 rfl rfl)
theorem dX6_comes_28 : decode cX6_comes 28 = .ok (.putfield 26, 3) := dk_181 0 26 (dk_at dksX6_comes_1 4 rfl rfl)
theorem dX6_comes_31 : decode cX6_comes 31 = .ok (.aload_n 0, 1) := dk_42 (dk_at dksX6_comes_1 7 rfl rfl)
theorem dX6_comes_32 : decode cX6_comes 32 = .ok (.iload_n 1, 1) := dk_27 (dk_at dksX6_comes_1 8 rfl rfl)
theorem dX6_comes_33 : decode cX6_comes 33 = .ok (.iconst 1, 1) := dk_4 (dk_at dksX6_comes_1 9 rfl rfl)
theorem dX6_comes_34 : decode cX6_comes 34 = .ok (.iadd, 1) := dk_96 (dk_at dksX6_comes_1 10 rfl rfl)
theorem dX6_comes_35 : decode cX6_comes 35 = .ok (.putfield 29, 3) := dk_181 0 29 (dk_at dksX6_comes_1 11 rfl rfl)
theorem dX6_comes_38 : decode cX6_comes 38 = .ok (.aload_n 0, 1) := dk_42 (dk_at dksX6_comes_1 14 rfl rfl)
theorem dX6_comes_39 : decode cX6_comes 39 = .ok (.getfield 9, 3) := dk_180 0 9 (dk_at dksX6_comes_1 15 rfl rfl)
theorem dX6_comes_42 : decode cX6_comes 42 = .ok (.iconst 0, 1) := dk_3 (dk_at dksX6_comes_1 18 rfl rfl)
theorem dX6_comes_43 : decode cX6_comes 43 = .ok (.aload_n 0, 1) := dk_42 (dk_at dksX6_comes_1 19 rfl rfl)
theorem dX6_comes_44 : decode cX6_comes 44 = .ok (.getfield 15, 3) := dk_180 0 15 (dk_at dksX6_comes_1 20 rfl rfl)
theorem dX6_comes_47 : decode cX6_comes 47 = .ok (.iconst 0, 1) := dk_3 (dk_at dksX6_comes_1 23 rfl rfl)
theorem dX6_comes_48 : decode cX6_comes 48 = .ok (.bipush 6, 2) := dk_16 6 (dk_at dksX6_comes_2 0 rfl rfl)
theorem dX6_comes_50 : decode cX6_comes 50 = .ok (.invokestatic 36, 3) := dk_184 0 36 (dk_at dksX6_comes_2 2 rfl rfl)
theorem dX6_comes_53 : decode cX6_comes 53 = .ok (.return_, 1) := dk_177 (dk_at dksX6_comes_2 5 rfl rfl)
theorem dX6_comes_54 : decode cX6_comes 54 = .ok (.iconst 0, 1) := dk_3 (dk_at dksX6_comes_2 6 rfl rfl)
theorem dX6_comes_55 : decode cX6_comes 55 = .ok (.istore 5, 2) := dk_54 5 (dk_at dksX6_comes_2 7 rfl rfl)
theorem dX6_comes_57 : decode cX6_comes 57 = .ok (.iload 5, 2) := dk_21 5 (dk_at dksX6_comes_2 9 rfl rfl)
theorem dX6_comes_59 : decode cX6_comes 59 = .ok (.aload_n 0, 1) := dk_42 (dk_at dksX6_comes_2 11 rfl rfl)
theorem dX6_comes_60 : decode cX6_comes 60 = .ok (.getfield 18, 3) := dk_180 0 18 (dk_at dksX6_comes_2 12 rfl rfl)
theorem dX6_comes_63 : decode cX6_comes 63 = .ok (.getfield 42, 3) := dk_180 0 42 (dk_at dksX6_comes_2 15 rfl rfl)
theorem dX6_comes_66 : decode cX6_comes 66 = .ok (.if_icmp .ge 64, 3) := dk_162 0 64 (dk_at dksX6_comes_2 18 rfl rfl)
theorem dX6_comes_69 : decode cX6_comes 69 = .ok (.iload_n 3, 1) := dk_29 (dk_at dksX6_comes_2 21 rfl rfl)
theorem dX6_comes_70 : decode cX6_comes 70 = .ok (.iload 5, 2) := dk_21 5 (dk_at dksX6_comes_2 22 rfl rfl)
theorem dX6_comes_72 : decode cX6_comes 72 = .ok (.invokestatic 47, 3) := dk_184 0 47 (dk_at dksX6_comes_3 0 rfl rfl)
theorem dX6_comes_75 : decode cX6_comes 75 = .ok (.ifCond .ne 49, 3) := dk_154 0 49 (dk_at dksX6_comes_3 3 rfl rfl)
theorem dX6_comes_78 : decode cX6_comes 78 = .ok (.aload_n 0, 1) := dk_42 (dk_at dksX6_comes_3 6 rfl rfl)
theorem dX6_comes_79 : decode cX6_comes 79 = .ok (.getfield 18, 3) := dk_180 0 18 (dk_at dksX6_comes_3 7 rfl rfl)
theorem dX6_comes_82 : decode cX6_comes 82 = .ok (.iload_n 2, 1) := dk_28 (dk_at dksX6_comes_3 10 rfl rfl)
theorem dX6_comes_83 : decode cX6_comes 83 = .ok (.iload 5, 2) := dk_21 5 (dk_at dksX6_comes_3 11 rfl rfl)
theorem dX6_comes_85 : decode cX6_comes 85 = .ok (.invokevirtual 51, 3) := dk_182 0 51 (dk_at dksX6_comes_3 13 rfl rfl)
theorem dX6_comes_88 : decode cX6_comes 88 = .ok (.ifCond .ne 6, 3) := dk_154 0 6 (dk_at dksX6_comes_3 16 rfl rfl)
theorem dX6_comes_91 : decode cX6_comes 91 = .ok (.goto 33, 3) := dk_167 0 33 (dk_at dksX6_comes_3 19 rfl rfl)
theorem dX6_comes_94 : decode cX6_comes 94 = .ok (.aload_n 0, 1) := dk_42 (dk_at dksX6_comes_3 22 rfl rfl)
theorem dX6_comes_95 : decode cX6_comes 95 = .ok (.iload_n 1, 1) := dk_27 (dk_at dksX6_comes_3 23 rfl rfl)
theorem dX6_comes_96 : decode cX6_comes 96 = .ok (.iconst 1, 1) := dk_4 (dk_at dksX6_comes_4 0 rfl rfl)
theorem dX6_comes_97 : decode cX6_comes 97 = .ok (.iadd, 1) := dk_96 (dk_at dksX6_comes_4 1 rfl rfl)
theorem dX6_comes_98 : decode cX6_comes 98 = .ok (.iload 5, 2) := dk_21 5 (dk_at dksX6_comes_4 2 rfl rfl)
theorem dX6_comes_100 : decode cX6_comes 100 = .ok (.iload_n 3, 1) := dk_29 (dk_at dksX6_comes_4 4 rfl rfl)
theorem dX6_comes_101 : decode cX6_comes 101 = .ok (.iconst 1, 1) := dk_4 (dk_at dksX6_comes_4 5 rfl rfl)
theorem dX6_comes_102 : decode cX6_comes 102 = .ok (.iload 5, 2) := dk_21 5 (dk_at dksX6_comes_4 6 rfl rfl)
theorem dX6_comes_104 : decode cX6_comes 104 = .ok (.ishl, 1) := dk_120 (dk_at dksX6_comes_4 8 rfl rfl)
theorem dX6_comes_105 : decode cX6_comes 105 = .ok (.ior, 1) := dk_128 (dk_at dksX6_comes_4 9 rfl rfl)
theorem dX6_comes_106 : decode cX6_comes 106 = .ok (.iload 4, 2) := dk_21 4 (dk_at dksX6_comes_4 10 rfl rfl)
theorem dX6_comes_108 : decode cX6_comes 108 = .ok (.aload_n 0, 1) := dk_42 (dk_at dksX6_comes_4 12 rfl rfl)
theorem dX6_comes_109 : decode cX6_comes 109 = .ok (.getfield 18, 3) := dk_180 0 18 (dk_at dksX6_comes_4 13 rfl rfl)
theorem dX6_comes_112 : decode cX6_comes 112 = .ok (.iload_n 2, 1) := dk_28 (dk_at dksX6_comes_4 16 rfl rfl)
theorem dX6_comes_113 : decode cX6_comes 113 = .ok (.iload 5, 2) := dk_21 5 (dk_at dksX6_comes_4 17 rfl rfl)
theorem dX6_comes_115 : decode cX6_comes 115 = .ok (.iload 4, 2) := dk_21 4 (dk_at dksX6_comes_4 19 rfl rfl)
theorem dX6_comes_117 : decode cX6_comes 117 = .ok (.invokevirtual 55, 3) := dk_182 0 55 (dk_at dksX6_comes_4 21 rfl rfl)
theorem dX6_comes_120 : decode cX6_comes 120 = .ok (.isub, 1) := dk_100 (dk_at dksX6_comes_5 0 rfl rfl)
theorem dX6_comes_121 : decode cX6_comes 121 = .ok (.invokevirtual 32, 3) := dk_182 0 32 (dk_at dksX6_comes_5 1 rfl rfl)
theorem dX6_comes_124 : decode cX6_comes 124 = .ok (.iinc 5 1, 3) := dk_132 5 1 (dk_at dksX6_comes_5 4 rfl rfl)
theorem dX6_comes_127 : decode cX6_comes 127 = .ok (.goto (-70), 3) := dk_167 255 186 (dk_at dksX6_comes_5 7 rfl rfl)
theorem dX6_comes_130 : decode cX6_comes 130 = .ok (.return_, 1) := dk_177 (dk_at dksX6_comes_5 10 rfl rfl)
abbrev cX6_size : ByteArray := prog_10_method_4_code
def yX6_size : MethodName := ⟨RX6, "size", "()I"⟩
theorem dX6_size_0 : decode cX6_size 0 = .ok (.aload_n 0, 1) := by decide +kernel
theorem dX6_size_1 : decode cX6_size 1 = .ok (.getfield 29, 3) := by decide +kernel
theorem dX6_size_4 : decode cX6_size 4 = .ok (.ireturn, 1) := by decide +kernel
abbrev cX6_at : ByteArray := prog_10_method_5_code
def yX6_at : MethodName := ⟨RX6, "at", "(I)I"⟩
def dkwX6_at_0 : List UInt8 := [42, 180, 0, 15, 27, 46, 172]
abbrev dktX6_at_0 : List UInt8 := dkwX6_at_0 ++ []
theorem dksX6_at_0 : cX6_at.data.toList.drop 0 = dktX6_at_0 := by decide +kernel
theorem dX6_at_0 : decode cX6_at 0 = .ok (.aload_n 0, 1) := dk_42 (dk_at dksX6_at_0 0 rfl rfl)
theorem dX6_at_1 : decode cX6_at 1 = .ok (.getfield 15, 3) := dk_180 0 15 (dk_at dksX6_at_0 1 rfl rfl)
theorem dX6_at_4 : decode cX6_at 4 = .ok (.iload_n 1, 1) := dk_27 (dk_at dksX6_at_0 4 rfl rfl)
theorem dX6_at_5 : decode cX6_at 5 = .ok (.iaload, 1) := dk_46 (dk_at dksX6_at_0 5 rfl rfl)
theorem dX6_at_6 : decode cX6_at 6 = .ok (.ireturn, 1) := dk_172 (dk_at dksX6_at_0 6 rfl rfl)
theorem q124 : (Jvm.Cond.initialized "ElephantLine$Marching") ∈ lw_all := lw_g (lw_at lw_m1 9 rfl) rfl
theorem q341 : (Jvm.Cond.instantiable "ElephantLine$Marching" (6 : Nat)) ∈ lw_all := lw_g (lw_at lw_m1 226 rfl) rfl
theorem q343 : (Jvm.Cond.instanceMethod ({ cls := "ElephantLine$Marching", name := "<init>", desc := "()V" } : Jvm.MethodName)) ∈ lw_all := lw_g (lw_at lw_m1 228 rfl) rfl
theorem q344 : (Jvm.Cond.code ({ cls := "ElephantLine$Marching", name := "<init>", desc := "()V" } : Jvm.MethodName) prog_10_method_1_code (1 : Nat) (Option.none : Option Jvm.ClassFile.FieldType)) ∈ lw_all := lw_g (lw_at lw_m1 229 rfl) rfl
theorem q345 : (Jvm.Cond.methodLink "ElephantLine$Marching" (3 : Nat) ({ cls := "java/lang/Object", name := "<init>", desc := "()V" } : Jvm.MethodName)) ∈ lw_all := lw_g (lw_at lw_m1 230 rfl) rfl
theorem q346 : (Jvm.Cond.fieldLink "ElephantLine$Marching" (9 : Nat) "ElephantLine$Marching" "row" "[I") ∈ lw_all := lw_g (lw_at lw_m1 231 rfl) rfl
theorem q347 : (Jvm.Cond.fieldLink "ElephantLine$Marching" (15 : Nat) "ElephantLine$Marching" "best" "[I") ∈ lw_all := lw_g (lw_at lw_m1 232 rfl) rfl
theorem q348 : (Jvm.Cond.fieldLink "ElephantLine$Marching" (18 : Nat) "ElephantLine$Marching" "war" "LElephantLine$War;") ∈ lw_all := lw_g (lw_at lw_m1 233 rfl) rfl
theorem q349 : (Jvm.Cond.fieldLink "ElephantLine$Marching" (22 : Nat) "ElephantLine$Marching" "goal" "I") ∈ lw_all := lw_g (lw_at lw_m1 234 rfl) rfl
theorem q350 : (Jvm.Cond.fieldLink "ElephantLine$Marching" (26 : Nat) "ElephantLine$Marching" "most" "I") ∈ lw_all := lw_g (lw_at lw_m1 235 rfl) rfl
theorem q351 : (Jvm.Cond.fieldLink "ElephantLine$Marching" (29 : Nat) "ElephantLine$Marching" "size" "I") ∈ lw_all := lw_g (lw_at lw_m1 236 rfl) rfl
theorem q352 : (Jvm.Cond.laysFinal "ElephantLine$Marching" "ElephantLine$Marching" "row" "[I") ∈ lw_all := lw_g (lw_at lw_m1 237 rfl) rfl
theorem q353 : (Jvm.Cond.soleField "ElephantLine$Marching" "row") ∈ lw_all := lw_g (lw_at lw_m1 238 rfl) rfl
theorem q354 : (Jvm.Cond.laysFinal "ElephantLine$Marching" "ElephantLine$Marching" "best" "[I") ∈ lw_all := lw_g (lw_at lw_m1 239 rfl) rfl
theorem q355 : (Jvm.Cond.soleField "ElephantLine$Marching" "best") ∈ lw_all := lw_g (lw_at lw_m2 0 rfl) rfl
theorem q356 : (Jvm.Cond.lays "ElephantLine$Marching" "ElephantLine$Marching" "war" "LElephantLine$War;") ∈ lw_all := lw_g (lw_at lw_m2 1 rfl) rfl
theorem q357 : (Jvm.Cond.soleField "ElephantLine$Marching" "war") ∈ lw_all := lw_g (lw_at lw_m2 2 rfl) rfl
theorem q358 : (Jvm.Cond.lays "ElephantLine$Marching" "ElephantLine$Marching" "goal" "I") ∈ lw_all := lw_g (lw_at lw_m2 3 rfl) rfl
theorem q359 : (Jvm.Cond.soleField "ElephantLine$Marching" "goal") ∈ lw_all := lw_g (lw_at lw_m2 4 rfl) rfl
theorem q360 : (Jvm.Cond.lays "ElephantLine$Marching" "ElephantLine$Marching" "most" "I") ∈ lw_all := lw_g (lw_at lw_m2 5 rfl) rfl
theorem q361 : (Jvm.Cond.soleField "ElephantLine$Marching" "most") ∈ lw_all := lw_g (lw_at lw_m2 6 rfl) rfl
theorem q362 : (Jvm.Cond.lays "ElephantLine$Marching" "ElephantLine$Marching" "size" "I") ∈ lw_all := lw_g (lw_at lw_m2 7 rfl) rfl
theorem q363 : (Jvm.Cond.soleField "ElephantLine$Marching" "size") ∈ lw_all := lw_g (lw_at lw_m2 8 rfl) rfl
theorem q364 : (Jvm.Cond.superclass "ElephantLine$Marching" "java/lang/Object") ∈ lw_all := lw_g (lw_at lw_m2 9 rfl) rfl
theorem q508 : (Jvm.Cond.fieldLink "ElephantLine$Marching" (42 : Nat) "ElephantLine$War" "cityMany" "I") ∈ lw_all := lw_g (lw_at lw_m2 153 rfl) rfl
theorem q1289 : (Jvm.Cond.instanceMethod ({ cls := "ElephantLine$Marching", name := "seek", desc := "(LElephantLine$War;III)I" } : Jvm.MethodName)) ∈ lw_all := lw_g (lw_at lw_m5 214 rfl) rfl
theorem q1290 : (Jvm.Cond.selects "ElephantLine$Marching" ({ cls := "ElephantLine$Marching", name := "seek", desc := "(LElephantLine$War;III)I" } : Jvm.MethodName) ({ cls := "ElephantLine$Marching", name := "seek", desc := "(LElephantLine$War;III)I" } : Jvm.MethodName)) ∈ lw_all := lw_g (lw_at lw_m5 215 rfl) rfl
theorem q1291 : (Jvm.Cond.code ({ cls := "ElephantLine$Marching", name := "seek", desc := "(LElephantLine$War;III)I" } : Jvm.MethodName) prog_10_method_2_code (5 : Nat) (Option.some Jvm.ClassFile.FieldType.int)) ∈ lw_all := lw_g (lw_at lw_m5 216 rfl) rfl
theorem q1292 : (Jvm.Cond.methodLink "ElephantLine$Marching" (32 : Nat) ({ cls := "ElephantLine$Marching", name := "comes", desc := "(IIII)V" } : Jvm.MethodName)) ∈ lw_all := lw_g (lw_at lw_m5 217 rfl) rfl
theorem q1293 : (Jvm.Cond.privateMethod ({ cls := "ElephantLine$Marching", name := "comes", desc := "(IIII)V" } : Jvm.MethodName)) ∈ lw_tbl := lw_at lw_m5 218 rfl
theorem q1294 : (Jvm.Cond.instanceMethod ({ cls := "ElephantLine$Marching", name := "comes", desc := "(IIII)V" } : Jvm.MethodName)) ∈ lw_all := lw_g (lw_at lw_m5 219 rfl) rfl
theorem q1295 : (Jvm.Cond.code ({ cls := "ElephantLine$Marching", name := "comes", desc := "(IIII)V" } : Jvm.MethodName) prog_10_method_3_code (6 : Nat) (Option.none : Option Jvm.ClassFile.FieldType)) ∈ lw_all := lw_g (lw_at lw_m5 220 rfl) rfl
theorem q1296 : (Jvm.Cond.methodLink "ElephantLine$Marching" (36 : Nat) ({ cls := "java/lang/System", name := "arraycopy", desc := "(Ljava/lang/Object;ILjava/lang/Object;II)V" } : Jvm.MethodName)) ∈ lw_all := lw_g (lw_at lw_m5 221 rfl) rfl
theorem q1297 : (Jvm.Cond.methodLinkNest "ElephantLine$Marching" (47 : Nat) ({ cls := "ElephantLine", name := "has", desc := "(II)Z" } : Jvm.MethodName) "ElephantLine") ∈ lw_tbl := lw_at lw_m5 222 rfl
theorem q1298 : (Jvm.Cond.methodLink "ElephantLine$Marching" (51 : Nat) ({ cls := "ElephantLine$War", name := "pass", desc := "(II)I" } : Jvm.MethodName)) ∈ lw_all := lw_g (lw_at lw_m5 223 rfl) rfl
theorem q1299 : (Jvm.Cond.methodLink "ElephantLine$Marching" (55 : Nat) ({ cls := "ElephantLine$War", name := "lost", desc := "(III)I" } : Jvm.MethodName)) ∈ lw_all := lw_g (lw_at lw_m5 224 rfl) rfl
theorem q1309 : (Jvm.Cond.instanceMethod ({ cls := "ElephantLine$Marching", name := "size", desc := "()I" } : Jvm.MethodName)) ∈ lw_all := lw_g (lw_at lw_m5 234 rfl) rfl
theorem q1310 : (Jvm.Cond.selects "ElephantLine$Marching" ({ cls := "ElephantLine$Marching", name := "size", desc := "()I" } : Jvm.MethodName) ({ cls := "ElephantLine$Marching", name := "size", desc := "()I" } : Jvm.MethodName)) ∈ lw_all := lw_g (lw_at lw_m5 235 rfl) rfl
theorem q1311 : (Jvm.Cond.code ({ cls := "ElephantLine$Marching", name := "size", desc := "()I" } : Jvm.MethodName) prog_10_method_4_code (1 : Nat) (Option.some Jvm.ClassFile.FieldType.int)) ∈ lw_all := lw_g (lw_at lw_m5 236 rfl) rfl
theorem q1313 : (Jvm.Cond.instanceMethod ({ cls := "ElephantLine$Marching", name := "at", desc := "(I)I" } : Jvm.MethodName)) ∈ lw_all := lw_g (lw_at lw_m5 238 rfl) rfl
theorem q1314 : (Jvm.Cond.selects "ElephantLine$Marching" ({ cls := "ElephantLine$Marching", name := "at", desc := "(I)I" } : Jvm.MethodName) ({ cls := "ElephantLine$Marching", name := "at", desc := "(I)I" } : Jvm.MethodName)) ∈ lw_all := lw_g (lw_at lw_m5 239 rfl) rfl
theorem q1315 : (Jvm.Cond.code ({ cls := "ElephantLine$Marching", name := "at", desc := "(I)I" } : Jvm.MethodName) prog_10_method_5_code (2 : Nat) (Option.some Jvm.ClassFile.FieldType.int)) ∈ lw_all := lw_g (lw_at lw_m6 0 rfl) rfl
theorem q2257 : (Jvm.Cond.castable "ElephantLine$Marching" "java/lang/Object") ∈ lw_tbl := lw_at lw_m9 222 rfl
theorem in_X6 : ∀ w ∈ wsX60, w ∈ lw_all := lw_in wsX60 [352, 354, 356, 358, 360, 362] (by decide +kernel) (by decide +kernel)
/-! ElephantLine$War -/
set_option maxRecDepth 100000
def RX8 : String := "ElephantLine$War"
def TX8 : u_T := fun k => match k with
  | 0 => ("ElephantLine$War", "stands", "[LElephantLine$Stand;", true)
  | 1 => ("ElephantLine$War", "strong", "[I", true)
  | 2 => ("ElephantLine$War", "passes", "[I", true)
  | 3 => ("ElephantLine$War", "beasts", "[LElephantLine$Beast;", true)
  | 4 => ("ElephantLine$War", "cities", "[LElephantLine$City;", true)
  | 5 => ("ElephantLine$War", "lanes", "I", false)
  | 6 => ("ElephantLine$War", "deep", "I", false)
  | 7 => ("ElephantLine$War", "laneMany", "I", false)
  | 8 => ("ElephantLine$War", "beastMany", "I", false)
  | 9 => ("ElephantLine$War", "cityMany", "I", false)
  | 10 => ("ElephantLine$War", "passMany", "I", false)
  | _ => ("ElephantLine$War", "turnedMany", "I", false)
def tyX8 : Nat → FieldType := fun k => match k with
  | 0 => .array (.object "ElephantLine$Stand")
  | 1 => .array .int
  | 2 => .array .int
  | 3 => .array (.object "ElephantLine$Beast")
  | 4 => .array (.object "ElephantLine$City")
  | 5 => .int
  | 6 => .int
  | 7 => .int
  | 8 => .int
  | 9 => .int
  | 10 => .int
  | _ => .int
abbrev wsX80 : List Cond := u_ws RX8 TX8 12
theorem nmX8 : ∀ a, a < 12 → ∀ b, b < 12 → a ≠ b → (TX8 a).2.1 ≠ (TX8 b).2.1 := by decide +kernel
theorem tyX8_ok : ∀ k, k < 12 → parseFieldDescriptor (TX8 k).2.2.1 = some (tyX8 k) := by decide +kernel
abbrev cX8_init : ByteArray := prog_18_method_1_code
def yX8_init : MethodName := ⟨RX8, "<init>", "()V"⟩
def dkwX8_init_1 : List UInt8 := [188, 10, 181, 0, 21, 42, 8, 189, 0, 24, 181, 0, 26, 42, 16, 6, 189, 0, 30, 181, 0, 32, 177]
abbrev dktX8_init_1 : List UInt8 := dkwX8_init_1 ++ []
def dkwX8_init_0 : List UInt8 := [42, 183, 0, 3, 42, 16, 6, 189, 0, 9, 181, 0, 11, 42, 16, 6, 188, 10, 181, 0, 17, 42, 16, 36]
abbrev dktX8_init_0 : List UInt8 := dkwX8_init_0 ++ dktX8_init_1
theorem dksX8_init_0 : cX8_init.data.toList.drop 0 = dktX8_init_0 := by decide +kernel
theorem dksX8_init_1 : cX8_init.data.toList.drop 24 = dktX8_init_1 := dk_seg dksX8_init_0 24 rfl rfl
theorem dX8_init_0 : decode cX8_init 0 = .ok (.aload_n 0, 1) := dk_42 (dk_at dksX8_init_0 0 rfl rfl)
theorem dX8_init_1 : decode cX8_init 1 = .ok (.invokespecial 3, 3) := dk_183 0 3 (dk_at dksX8_init_0 1 rfl rfl)
theorem dX8_init_4 : decode cX8_init 4 = .ok (.aload_n 0, 1) := dk_42 (dk_at dksX8_init_0 4 rfl rfl)
theorem dX8_init_5 : decode cX8_init 5 = .ok (.bipush 6, 2) := dk_16 6 (dk_at dksX8_init_0 5 rfl rfl)
theorem dX8_init_7 : decode cX8_init 7 = .ok (.anewarray 9, 3) := dk_189 0 9 (dk_at dksX8_init_0 7 rfl rfl)
theorem dX8_init_10 : decode cX8_init 10 = .ok (.putfield 11, 3) := dk_181 0 11 (dk_at dksX8_init_0 10 rfl rfl)
theorem dX8_init_13 : decode cX8_init 13 = .ok (.aload_n 0, 1) := dk_42 (dk_at dksX8_init_0 13 rfl rfl)
theorem dX8_init_14 : decode cX8_init 14 = .ok (.bipush 6, 2) := dk_16 6 (dk_at dksX8_init_0 14 rfl rfl)
theorem dX8_init_16 : decode cX8_init 16 = .ok (.newarray .int, 2) := dk_188_10 (dk_at dksX8_init_0 16 rfl rfl)
theorem dX8_init_18 : decode cX8_init 18 = .ok (.putfield 17, 3) := dk_181 0 17 (dk_at dksX8_init_0 18 rfl rfl)
theorem dX8_init_21 : decode cX8_init 21 = .ok (.aload_n 0, 1) := dk_42 (dk_at dksX8_init_0 21 rfl rfl)
theorem dX8_init_22 : decode cX8_init 22 = .ok (.bipush 36, 2) := dk_16 36 (dk_at dksX8_init_0 22 rfl rfl)
theorem dX8_init_24 : decode cX8_init 24 = .ok (.newarray .int, 2) := dk_188_10 (dk_at dksX8_init_1 0 rfl rfl)
theorem dX8_init_26 : decode cX8_init 26 = .ok (.putfield 21, 3) := dk_181 0 21 (dk_at dksX8_init_1 2 rfl rfl)
theorem dX8_init_29 : decode cX8_init 29 = .ok (.aload_n 0, 1) := dk_42 (dk_at dksX8_init_1 5 rfl rfl)
theorem dX8_init_30 : decode cX8_init 30 = .ok (.iconst 5, 1) := dk_8 (dk_at dksX8_init_1 6 rfl rfl)
theorem dX8_init_31 : decode cX8_init 31 = .ok (.anewarray 24, 3) := dk_189 0 24 (dk_at dksX8_init_1 7 rfl rfl)
theorem dX8_init_34 : decode cX8_init 34 = .ok (.putfield 26, 3) := dk_181 0 26 (dk_at dksX8_init_1 10 rfl rfl)
theorem dX8_init_37 : decode cX8_init 37 = .ok (.aload_n 0, 1) := dk_42 (dk_at dksX8_init_1 13 rfl rfl)
theorem dX8_init_38 : decode cX8_init 38 = .ok (.bipush 6, 2) := dk_16 6 (dk_at dksX8_init_1 14 rfl rfl)
theorem dX8_init_40 : decode cX8_init 40 = .ok (.anewarray 30, 3) := dk_189 0 30 (dk_at dksX8_init_1 16 rfl rfl)
theorem dX8_init_43 : decode cX8_init 43 = .ok (.putfield 32, 3) := dk_181 0 32 (dk_at dksX8_init_1 19 rfl rfl)
theorem dX8_init_46 : decode cX8_init 46 = .ok (.return_, 1) := dk_177 (dk_at dksX8_init_1 22 rfl rfl)
abbrev cX8_find : ByteArray := prog_18_method_2_code
def yX8_find : MethodName := ⟨RX8, "find", "(Ljava/lang/String;)LElephantLine$Named;"⟩
def dkwX8_find_3 : List UInt8 := [50, 176, 132, 2, 1, 167, 255, 222, 1, 176]
abbrev dktX8_find_3 : List UInt8 := dkwX8_find_3 ++ []
def dkwX8_find_2 : List UInt8 := [162, 0, 32, 42, 180, 0, 32, 28, 50, 180, 0, 53, 43, 182, 0, 44, 153, 0, 10, 42, 180, 0, 32, 28]
abbrev dktX8_find_2 : List UInt8 := dkwX8_find_2 ++ dktX8_find_3
def dkwX8_find_1 : List UInt8 := [153, 0, 10, 42, 180, 0, 26, 28, 50, 176, 132, 2, 1, 167, 255, 222, 3, 61, 28, 42, 180, 0, 50]
abbrev dktX8_find_1 : List UInt8 := dkwX8_find_1 ++ dktX8_find_2
def dkwX8_find_0 : List UInt8 := [3, 61, 28, 42, 180, 0, 36, 162, 0, 32, 42, 180, 0, 26, 28, 50, 180, 0, 40, 43, 182, 0, 44]
abbrev dktX8_find_0 : List UInt8 := dkwX8_find_0 ++ dktX8_find_1
theorem dksX8_find_0 : cX8_find.data.toList.drop 0 = dktX8_find_0 := by decide +kernel
theorem dksX8_find_1 : cX8_find.data.toList.drop 23 = dktX8_find_1 := dk_seg dksX8_find_0 23 rfl rfl
theorem dksX8_find_2 : cX8_find.data.toList.drop 46 = dktX8_find_2 := dk_seg dksX8_find_1 23 rfl rfl
theorem dksX8_find_3 : cX8_find.data.toList.drop 70 = dktX8_find_3 := dk_seg dksX8_find_2 24 rfl rfl
theorem dX8_find_0 : decode cX8_find 0 = .ok (.iconst 0, 1) := dk_3 (dk_at dksX8_find_0 0 rfl rfl)
theorem dX8_find_1 : decode cX8_find 1 = .ok (.istore_n 2, 1) := dk_61 (dk_at dksX8_find_0 1 rfl rfl)
theorem dX8_find_2 : decode cX8_find 2 = .ok (.iload_n 2, 1) := dk_28 (dk_at dksX8_find_0 2 rfl rfl)
theorem dX8_find_3 : decode cX8_find 3 = .ok (.aload_n 0, 1) := dk_42 (dk_at dksX8_find_0 3 rfl rfl)
theorem dX8_find_4 : decode cX8_find 4 = .ok (.getfield 36, 3) := dk_180 0 36 (dk_at dksX8_find_0 4 rfl rfl)
theorem dX8_find_7 : decode cX8_find 7 = .ok (.if_icmp .ge 32, 3) := dk_162 0 32 (dk_at dksX8_find_0 7 rfl rfl)
theorem dX8_find_10 : decode cX8_find 10 = .ok (.aload_n 0, 1) := dk_42 (dk_at dksX8_find_0 10 rfl rfl)
theorem dX8_find_11 : decode cX8_find 11 = .ok (.getfield 26, 3) := dk_180 0 26 (dk_at dksX8_find_0 11 rfl rfl)
theorem dX8_find_14 : decode cX8_find 14 = .ok (.iload_n 2, 1) := dk_28 (dk_at dksX8_find_0 14 rfl rfl)
theorem dX8_find_15 : decode cX8_find 15 = .ok (.aaload, 1) := dk_50 (dk_at dksX8_find_0 15 rfl rfl)
theorem dX8_find_16 : decode cX8_find 16 = .ok (.getfield 40, 3) := dk_180 0 40 (dk_at dksX8_find_0 16 rfl rfl)
theorem dX8_find_19 : decode cX8_find 19 = .ok (.aload_n 1, 1) := dk_43 (dk_at dksX8_find_0 19 rfl rfl)
theorem dX8_find_20 : decode cX8_find 20 = .ok (.invokevirtual 44, 3) := dk_182 0 44 (dk_at dksX8_find_0 20 rfl rfl)
theorem dX8_find_23 : decode cX8_find 23 = .ok (.ifCond .eq 10, 3) := dk_153 0 10 (dk_at dksX8_find_1 0 rfl rfl)
theorem dX8_find_26 : decode cX8_find 26 = .ok (.aload_n 0, 1) := dk_42 (dk_at dksX8_find_1 3 rfl rfl)
theorem dX8_find_27 : decode cX8_find 27 = .ok (.getfield 26, 3) := dk_180 0 26 (dk_at dksX8_find_1 4 rfl rfl)
theorem dX8_find_30 : decode cX8_find 30 = .ok (.iload_n 2, 1) := dk_28 (dk_at dksX8_find_1 7 rfl rfl)
theorem dX8_find_31 : decode cX8_find 31 = .ok (.aaload, 1) := dk_50 (dk_at dksX8_find_1 8 rfl rfl)
theorem dX8_find_32 : decode cX8_find 32 = .ok (.areturn, 1) := dk_176 (dk_at dksX8_find_1 9 rfl rfl)
theorem dX8_find_33 : decode cX8_find 33 = .ok (.iinc 2 1, 3) := dk_132 2 1 (dk_at dksX8_find_1 10 rfl rfl)
theorem dX8_find_36 : decode cX8_find 36 = .ok (.goto (-34), 3) := dk_167 255 222 (dk_at dksX8_find_1 13 rfl rfl)
theorem dX8_find_39 : decode cX8_find 39 = .ok (.iconst 0, 1) := dk_3 (dk_at dksX8_find_1 16 rfl rfl)
theorem dX8_find_40 : decode cX8_find 40 = .ok (.istore_n 2, 1) := dk_61 (dk_at dksX8_find_1 17 rfl rfl)
theorem dX8_find_41 : decode cX8_find 41 = .ok (.iload_n 2, 1) := dk_28 (dk_at dksX8_find_1 18 rfl rfl)
theorem dX8_find_42 : decode cX8_find 42 = .ok (.aload_n 0, 1) := dk_42 (dk_at dksX8_find_1 19 rfl rfl)
theorem dX8_find_43 : decode cX8_find 43 = .ok (.getfield 50, 3) := dk_180 0 50 (dk_at dksX8_find_1 20 rfl rfl)
theorem dX8_find_46 : decode cX8_find 46 = .ok (.if_icmp .ge 32, 3) := dk_162 0 32 (dk_at dksX8_find_2 0 rfl rfl)
theorem dX8_find_49 : decode cX8_find 49 = .ok (.aload_n 0, 1) := dk_42 (dk_at dksX8_find_2 3 rfl rfl)
theorem dX8_find_50 : decode cX8_find 50 = .ok (.getfield 32, 3) := dk_180 0 32 (dk_at dksX8_find_2 4 rfl rfl)
theorem dX8_find_53 : decode cX8_find 53 = .ok (.iload_n 2, 1) := dk_28 (dk_at dksX8_find_2 7 rfl rfl)
theorem dX8_find_54 : decode cX8_find 54 = .ok (.aaload, 1) := dk_50 (dk_at dksX8_find_2 8 rfl rfl)
theorem dX8_find_55 : decode cX8_find 55 = .ok (.getfield 53, 3) := dk_180 0 53 (dk_at dksX8_find_2 9 rfl rfl)
theorem dX8_find_58 : decode cX8_find 58 = .ok (.aload_n 1, 1) := dk_43 (dk_at dksX8_find_2 12 rfl rfl)
theorem dX8_find_59 : decode cX8_find 59 = .ok (.invokevirtual 44, 3) := dk_182 0 44 (dk_at dksX8_find_2 13 rfl rfl)
theorem dX8_find_62 : decode cX8_find 62 = .ok (.ifCond .eq 10, 3) := dk_153 0 10 (dk_at dksX8_find_2 16 rfl rfl)
theorem dX8_find_65 : decode cX8_find 65 = .ok (.aload_n 0, 1) := dk_42 (dk_at dksX8_find_2 19 rfl rfl)
theorem dX8_find_66 : decode cX8_find 66 = .ok (.getfield 32, 3) := dk_180 0 32 (dk_at dksX8_find_2 20 rfl rfl)
theorem dX8_find_69 : decode cX8_find 69 = .ok (.iload_n 2, 1) := dk_28 (dk_at dksX8_find_2 23 rfl rfl)
theorem dX8_find_70 : decode cX8_find 70 = .ok (.aaload, 1) := dk_50 (dk_at dksX8_find_3 0 rfl rfl)
theorem dX8_find_71 : decode cX8_find 71 = .ok (.areturn, 1) := dk_176 (dk_at dksX8_find_3 1 rfl rfl)
theorem dX8_find_72 : decode cX8_find 72 = .ok (.iinc 2 1, 3) := dk_132 2 1 (dk_at dksX8_find_3 2 rfl rfl)
theorem dX8_find_75 : decode cX8_find 75 = .ok (.goto (-34), 3) := dk_167 255 222 (dk_at dksX8_find_3 5 rfl rfl)
theorem dX8_find_78 : decode cX8_find 78 = .ok (.aconst_null, 1) := dk_1 (dk_at dksX8_find_3 8 rfl rfl)
theorem dX8_find_79 : decode cX8_find 79 = .ok (.areturn, 1) := dk_176 (dk_at dksX8_find_3 9 rfl rfl)
abbrev cX8_pass : ByteArray := prog_18_method_5_code
def yX8_pass : MethodName := ⟨RX8, "pass", "(II)I"⟩
def dkwX8_pass_0 : List UInt8 := [42, 180, 0, 21, 16, 6, 27, 104, 28, 96, 46, 172]
abbrev dktX8_pass_0 : List UInt8 := dkwX8_pass_0 ++ []
theorem dksX8_pass_0 : cX8_pass.data.toList.drop 0 = dktX8_pass_0 := by decide +kernel
theorem dX8_pass_0 : decode cX8_pass 0 = .ok (.aload_n 0, 1) := dk_42 (dk_at dksX8_pass_0 0 rfl rfl)
theorem dX8_pass_1 : decode cX8_pass 1 = .ok (.getfield 21, 3) := dk_180 0 21 (dk_at dksX8_pass_0 1 rfl rfl)
theorem dX8_pass_4 : decode cX8_pass 4 = .ok (.bipush 6, 2) := dk_16 6 (dk_at dksX8_pass_0 4 rfl rfl)
theorem dX8_pass_6 : decode cX8_pass 6 = .ok (.iload_n 1, 1) := dk_27 (dk_at dksX8_pass_0 6 rfl rfl)
theorem dX8_pass_7 : decode cX8_pass 7 = .ok (.imul, 1) := dk_104 (dk_at dksX8_pass_0 7 rfl rfl)
theorem dX8_pass_8 : decode cX8_pass 8 = .ok (.iload_n 2, 1) := dk_28 (dk_at dksX8_pass_0 8 rfl rfl)
theorem dX8_pass_9 : decode cX8_pass 9 = .ok (.iadd, 1) := dk_96 (dk_at dksX8_pass_0 9 rfl rfl)
theorem dX8_pass_10 : decode cX8_pass 10 = .ok (.iaload, 1) := dk_46 (dk_at dksX8_pass_0 10 rfl rfl)
theorem dX8_pass_11 : decode cX8_pass 11 = .ok (.ireturn, 1) := dk_172 (dk_at dksX8_pass_0 11 rfl rfl)
abbrev cX8_lost : ByteArray := prog_18_method_4_code
def yX8_lost : MethodName := ⟨RX8, "lost", "(III)I"⟩
def dkwX8_lost_0 : List UInt8 := [29, 42, 27, 28, 182, 0, 58, 4, 100, 104, 16, 99, 96, 16, 100, 108, 172]
abbrev dktX8_lost_0 : List UInt8 := dkwX8_lost_0 ++ []
theorem dksX8_lost_0 : cX8_lost.data.toList.drop 0 = dktX8_lost_0 := by decide +kernel
theorem dX8_lost_0 : decode cX8_lost 0 = .ok (.iload_n 3, 1) := dk_29 (dk_at dksX8_lost_0 0 rfl rfl)
theorem dX8_lost_1 : decode cX8_lost 1 = .ok (.aload_n 0, 1) := dk_42 (dk_at dksX8_lost_0 1 rfl rfl)
theorem dX8_lost_2 : decode cX8_lost 2 = .ok (.iload_n 1, 1) := dk_27 (dk_at dksX8_lost_0 2 rfl rfl)
theorem dX8_lost_3 : decode cX8_lost 3 = .ok (.iload_n 2, 1) := dk_28 (dk_at dksX8_lost_0 3 rfl rfl)
theorem dX8_lost_4 : decode cX8_lost 4 = .ok (.invokevirtual 58, 3) := dk_182 0 58 (dk_at dksX8_lost_0 4 rfl rfl)
theorem dX8_lost_7 : decode cX8_lost 7 = .ok (.iconst 1, 1) := dk_4 (dk_at dksX8_lost_0 7 rfl rfl)
theorem dX8_lost_8 : decode cX8_lost 8 = .ok (.isub, 1) := dk_100 (dk_at dksX8_lost_0 8 rfl rfl)
theorem dX8_lost_9 : decode cX8_lost 9 = .ok (.imul, 1) := dk_104 (dk_at dksX8_lost_0 9 rfl rfl)
theorem dX8_lost_10 : decode cX8_lost 10 = .ok (.bipush 99, 2) := dk_16 99 (dk_at dksX8_lost_0 10 rfl rfl)
theorem dX8_lost_12 : decode cX8_lost 12 = .ok (.iadd, 1) := dk_96 (dk_at dksX8_lost_0 12 rfl rfl)
theorem dX8_lost_13 : decode cX8_lost 13 = .ok (.bipush 100, 2) := dk_16 100 (dk_at dksX8_lost_0 13 rfl rfl)
theorem dX8_lost_15 : decode cX8_lost 15 = .ok (.idiv, 1) := dk_108 (dk_at dksX8_lost_0 15 rfl rfl)
theorem dX8_lost_16 : decode cX8_lost 16 = .ok (.ireturn, 1) := dk_172 (dk_at dksX8_lost_0 16 rfl rfl)
abbrev cX8_turned : ByteArray := prog_18_method_3_code
def yX8_turned : MethodName := ⟨RX8, "turned", "()I"⟩
def dkwX8_turned_1 : List UInt8 := [153, 0, 9, 4, 28, 120, 167, 0, 4, 3, 128, 60, 132, 2, 1, 167, 255, 223, 27, 172]
abbrev dktX8_turned_1 : List UInt8 := dkwX8_turned_1 ++ []
def dkwX8_turned_0 : List UInt8 := [3, 60, 3, 61, 28, 42, 180, 0, 36, 162, 0, 31, 27, 42, 180, 0, 26, 28, 50, 180, 0, 54]
abbrev dktX8_turned_0 : List UInt8 := dkwX8_turned_0 ++ dktX8_turned_1
theorem dksX8_turned_0 : cX8_turned.data.toList.drop 0 = dktX8_turned_0 := by decide +kernel
theorem dksX8_turned_1 : cX8_turned.data.toList.drop 22 = dktX8_turned_1 := dk_seg dksX8_turned_0 22 rfl rfl
theorem dX8_turned_0 : decode cX8_turned 0 = .ok (.iconst 0, 1) := dk_3 (dk_at dksX8_turned_0 0 rfl rfl)
theorem dX8_turned_1 : decode cX8_turned 1 = .ok (.istore_n 1, 1) := dk_60 (dk_at dksX8_turned_0 1 rfl rfl)
theorem dX8_turned_2 : decode cX8_turned 2 = .ok (.iconst 0, 1) := dk_3 (dk_at dksX8_turned_0 2 rfl rfl)
theorem dX8_turned_3 : decode cX8_turned 3 = .ok (.istore_n 2, 1) := dk_61 (dk_at dksX8_turned_0 3 rfl rfl)
theorem dX8_turned_4 : decode cX8_turned 4 = .ok (.iload_n 2, 1) := dk_28 (dk_at dksX8_turned_0 4 rfl rfl)
theorem dX8_turned_5 : decode cX8_turned 5 = .ok (.aload_n 0, 1) := dk_42 (dk_at dksX8_turned_0 5 rfl rfl)
theorem dX8_turned_6 : decode cX8_turned 6 = .ok (.getfield 36, 3) := dk_180 0 36 (dk_at dksX8_turned_0 6 rfl rfl)
theorem dX8_turned_9 : decode cX8_turned 9 = .ok (.if_icmp .ge 31, 3) := dk_162 0 31 (dk_at dksX8_turned_0 9 rfl rfl)
theorem dX8_turned_12 : decode cX8_turned 12 = .ok (.iload_n 1, 1) := dk_27 (dk_at dksX8_turned_0 12 rfl rfl)
theorem dX8_turned_13 : decode cX8_turned 13 = .ok (.aload_n 0, 1) := dk_42 (dk_at dksX8_turned_0 13 rfl rfl)
theorem dX8_turned_14 : decode cX8_turned 14 = .ok (.getfield 26, 3) := dk_180 0 26 (dk_at dksX8_turned_0 14 rfl rfl)
theorem dX8_turned_17 : decode cX8_turned 17 = .ok (.iload_n 2, 1) := dk_28 (dk_at dksX8_turned_0 17 rfl rfl)
theorem dX8_turned_18 : decode cX8_turned 18 = .ok (.aaload, 1) := dk_50 (dk_at dksX8_turned_0 18 rfl rfl)
theorem dX8_turned_19 : decode cX8_turned 19 = .ok (.getfield 54, 3) := dk_180 0 54 (dk_at dksX8_turned_0 19 rfl rfl)
theorem dX8_turned_22 : decode cX8_turned 22 = .ok (.ifCond .eq 9, 3) := dk_153 0 9 (dk_at dksX8_turned_1 0 rfl rfl)
theorem dX8_turned_25 : decode cX8_turned 25 = .ok (.iconst 1, 1) := dk_4 (dk_at dksX8_turned_1 3 rfl rfl)
theorem dX8_turned_26 : decode cX8_turned 26 = .ok (.iload_n 2, 1) := dk_28 (dk_at dksX8_turned_1 4 rfl rfl)
theorem dX8_turned_27 : decode cX8_turned 27 = .ok (.ishl, 1) := dk_120 (dk_at dksX8_turned_1 5 rfl rfl)
theorem dX8_turned_28 : decode cX8_turned 28 = .ok (.goto 4, 3) := dk_167 0 4 (dk_at dksX8_turned_1 6 rfl rfl)
theorem dX8_turned_31 : decode cX8_turned 31 = .ok (.iconst 0, 1) := dk_3 (dk_at dksX8_turned_1 9 rfl rfl)
theorem dX8_turned_32 : decode cX8_turned 32 = .ok (.ior, 1) := dk_128 (dk_at dksX8_turned_1 10 rfl rfl)
theorem dX8_turned_33 : decode cX8_turned 33 = .ok (.istore_n 1, 1) := dk_60 (dk_at dksX8_turned_1 11 rfl rfl)
theorem dX8_turned_34 : decode cX8_turned 34 = .ok (.iinc 2 1, 3) := dk_132 2 1 (dk_at dksX8_turned_1 12 rfl rfl)
theorem dX8_turned_37 : decode cX8_turned 37 = .ok (.goto (-33), 3) := dk_167 255 223 (dk_at dksX8_turned_1 15 rfl rfl)
theorem dX8_turned_40 : decode cX8_turned 40 = .ok (.iload_n 1, 1) := dk_27 (dk_at dksX8_turned_1 18 rfl rfl)
theorem dX8_turned_41 : decode cX8_turned 41 = .ok (.ireturn, 1) := dk_172 (dk_at dksX8_turned_1 19 rfl rfl)
theorem q126 : (Jvm.Cond.initialized "ElephantLine$War") ∈ lw_all := lw_g (lw_at lw_m1 11 rfl) rfl
theorem q468 : (Jvm.Cond.instantiable "ElephantLine$War" (12 : Nat)) ∈ lw_all := lw_g (lw_at lw_m2 113 rfl) rfl
theorem q470 : (Jvm.Cond.instanceMethod ({ cls := "ElephantLine$War", name := "<init>", desc := "()V" } : Jvm.MethodName)) ∈ lw_all := lw_g (lw_at lw_m2 115 rfl) rfl
theorem q471 : (Jvm.Cond.code ({ cls := "ElephantLine$War", name := "<init>", desc := "()V" } : Jvm.MethodName) prog_18_method_1_code (1 : Nat) (Option.none : Option Jvm.ClassFile.FieldType)) ∈ lw_all := lw_g (lw_at lw_m2 116 rfl) rfl
theorem q472 : (Jvm.Cond.methodLink "ElephantLine$War" (3 : Nat) ({ cls := "java/lang/Object", name := "<init>", desc := "()V" } : Jvm.MethodName)) ∈ lw_all := lw_g (lw_at lw_m2 117 rfl) rfl
theorem q473 : (Jvm.Cond.classLink "ElephantLine$War" (9 : Nat) "ElephantLine$Stand") ∈ lw_all := lw_g (lw_at lw_m2 118 rfl) rfl
theorem q475 : (Jvm.Cond.classLink "ElephantLine$War" (24 : Nat) "ElephantLine$Beast") ∈ lw_all := lw_g (lw_at lw_m2 120 rfl) rfl
theorem q477 : (Jvm.Cond.classLink "ElephantLine$War" (30 : Nat) "ElephantLine$City") ∈ lw_all := lw_g (lw_at lw_m2 122 rfl) rfl
theorem q479 : (Jvm.Cond.fieldLink "ElephantLine$War" (11 : Nat) "ElephantLine$War" "stands" "[LElephantLine$Stand;") ∈ lw_all := lw_g (lw_at lw_m2 124 rfl) rfl
theorem q483 : (Jvm.Cond.fieldLink "ElephantLine$War" (17 : Nat) "ElephantLine$War" "strong" "[I") ∈ lw_all := lw_g (lw_at lw_m2 128 rfl) rfl
theorem q486 : (Jvm.Cond.fieldLink "ElephantLine$War" (21 : Nat) "ElephantLine$War" "passes" "[I") ∈ lw_all := lw_g (lw_at lw_m2 131 rfl) rfl
theorem q488 : (Jvm.Cond.fieldLink "ElephantLine$War" (26 : Nat) "ElephantLine$War" "beasts" "[LElephantLine$Beast;") ∈ lw_all := lw_g (lw_at lw_m2 133 rfl) rfl
theorem q492 : (Jvm.Cond.fieldLink "ElephantLine$War" (32 : Nat) "ElephantLine$War" "cities" "[LElephantLine$City;") ∈ lw_all := lw_g (lw_at lw_m2 137 rfl) rfl
theorem q502 : (Jvm.Cond.fieldLink "ElephantLine$War" (36 : Nat) "ElephantLine$War" "beastMany" "I") ∈ lw_all := lw_g (lw_at lw_m2 147 rfl) rfl
theorem q507 : (Jvm.Cond.fieldLink "ElephantLine$War" (50 : Nat) "ElephantLine$War" "cityMany" "I") ∈ lw_all := lw_g (lw_at lw_m2 152 rfl) rfl
theorem q515 : (Jvm.Cond.laysFinal "ElephantLine$War" "ElephantLine$War" "stands" "[LElephantLine$Stand;") ∈ lw_all := lw_g (lw_at lw_m2 160 rfl) rfl
theorem q516 : (Jvm.Cond.soleField "ElephantLine$War" "stands") ∈ lw_all := lw_g (lw_at lw_m2 161 rfl) rfl
theorem q517 : (Jvm.Cond.laysFinal "ElephantLine$War" "ElephantLine$War" "strong" "[I") ∈ lw_all := lw_g (lw_at lw_m2 162 rfl) rfl
theorem q518 : (Jvm.Cond.soleField "ElephantLine$War" "strong") ∈ lw_all := lw_g (lw_at lw_m2 163 rfl) rfl
theorem q519 : (Jvm.Cond.laysFinal "ElephantLine$War" "ElephantLine$War" "passes" "[I") ∈ lw_all := lw_g (lw_at lw_m2 164 rfl) rfl
theorem q520 : (Jvm.Cond.soleField "ElephantLine$War" "passes") ∈ lw_all := lw_g (lw_at lw_m2 165 rfl) rfl
theorem q521 : (Jvm.Cond.laysFinal "ElephantLine$War" "ElephantLine$War" "beasts" "[LElephantLine$Beast;") ∈ lw_all := lw_g (lw_at lw_m2 166 rfl) rfl
theorem q522 : (Jvm.Cond.soleField "ElephantLine$War" "beasts") ∈ lw_all := lw_g (lw_at lw_m2 167 rfl) rfl
theorem q523 : (Jvm.Cond.laysFinal "ElephantLine$War" "ElephantLine$War" "cities" "[LElephantLine$City;") ∈ lw_all := lw_g (lw_at lw_m2 168 rfl) rfl
theorem q524 : (Jvm.Cond.soleField "ElephantLine$War" "cities") ∈ lw_all := lw_g (lw_at lw_m2 169 rfl) rfl
theorem q525 : (Jvm.Cond.lays "ElephantLine$War" "ElephantLine$War" "lanes" "I") ∈ lw_all := lw_g (lw_at lw_m2 170 rfl) rfl
theorem q526 : (Jvm.Cond.soleField "ElephantLine$War" "lanes") ∈ lw_all := lw_g (lw_at lw_m2 171 rfl) rfl
theorem q527 : (Jvm.Cond.lays "ElephantLine$War" "ElephantLine$War" "deep" "I") ∈ lw_all := lw_g (lw_at lw_m2 172 rfl) rfl
theorem q528 : (Jvm.Cond.soleField "ElephantLine$War" "deep") ∈ lw_all := lw_g (lw_at lw_m2 173 rfl) rfl
theorem q529 : (Jvm.Cond.lays "ElephantLine$War" "ElephantLine$War" "laneMany" "I") ∈ lw_all := lw_g (lw_at lw_m2 174 rfl) rfl
theorem q530 : (Jvm.Cond.soleField "ElephantLine$War" "laneMany") ∈ lw_all := lw_g (lw_at lw_m2 175 rfl) rfl
theorem q531 : (Jvm.Cond.lays "ElephantLine$War" "ElephantLine$War" "beastMany" "I") ∈ lw_all := lw_g (lw_at lw_m2 176 rfl) rfl
theorem q532 : (Jvm.Cond.soleField "ElephantLine$War" "beastMany") ∈ lw_all := lw_g (lw_at lw_m2 177 rfl) rfl
theorem q533 : (Jvm.Cond.lays "ElephantLine$War" "ElephantLine$War" "cityMany" "I") ∈ lw_all := lw_g (lw_at lw_m2 178 rfl) rfl
theorem q534 : (Jvm.Cond.soleField "ElephantLine$War" "cityMany") ∈ lw_all := lw_g (lw_at lw_m2 179 rfl) rfl
theorem q535 : (Jvm.Cond.lays "ElephantLine$War" "ElephantLine$War" "passMany" "I") ∈ lw_all := lw_g (lw_at lw_m2 180 rfl) rfl
theorem q536 : (Jvm.Cond.soleField "ElephantLine$War" "passMany") ∈ lw_all := lw_g (lw_at lw_m2 181 rfl) rfl
theorem q537 : (Jvm.Cond.lays "ElephantLine$War" "ElephantLine$War" "turnedMany" "I") ∈ lw_all := lw_g (lw_at lw_m2 182 rfl) rfl
theorem q538 : (Jvm.Cond.soleField "ElephantLine$War" "turnedMany") ∈ lw_all := lw_g (lw_at lw_m2 183 rfl) rfl
theorem q539 : (Jvm.Cond.superclass "ElephantLine$War" "java/lang/Object") ∈ lw_all := lw_g (lw_at lw_m2 184 rfl) rfl
theorem q796 : (Jvm.Cond.instanceMethod ({ cls := "ElephantLine$War", name := "find", desc := "(Ljava/lang/String;)LElephantLine$Named;" } : Jvm.MethodName)) ∈ lw_all := lw_g (lw_at lw_m3 201 rfl) rfl
theorem q797 : (Jvm.Cond.selects "ElephantLine$War" ({ cls := "ElephantLine$War", name := "find", desc := "(Ljava/lang/String;)LElephantLine$Named;" } : Jvm.MethodName) ({ cls := "ElephantLine$War", name := "find", desc := "(Ljava/lang/String;)LElephantLine$Named;" } : Jvm.MethodName)) ∈ lw_all := lw_g (lw_at lw_m3 202 rfl) rfl
theorem q798 : (Jvm.Cond.code ({ cls := "ElephantLine$War", name := "find", desc := "(Ljava/lang/String;)LElephantLine$Named;" } : Jvm.MethodName) prog_18_method_2_code (3 : Nat) (Option.some (Jvm.ClassFile.FieldType.object "ElephantLine$Named"))) ∈ lw_all := lw_g (lw_at lw_m3 203 rfl) rfl
theorem q799 : (Jvm.Cond.methodLink "ElephantLine$War" (44 : Nat) ({ cls := "java/lang/String", name := "equals", desc := "(Ljava/lang/Object;)Z" } : Jvm.MethodName)) ∈ lw_all := lw_g (lw_at lw_m3 204 rfl) rfl
theorem q824 : (Jvm.Cond.fieldLink "ElephantLine$War" (54 : Nat) "ElephantLine$Beast" "turned" "Z") ∈ lw_all := lw_g (lw_at lw_m3 229 rfl) rfl
theorem q827 : (Jvm.Cond.fieldLink "ElephantLine$War" (40 : Nat) "ElephantLine$Beast" "name" "Ljava/lang/String;") ∈ lw_all := lw_g (lw_at lw_m3 232 rfl) rfl
theorem q829 : (Jvm.Cond.fieldLink "ElephantLine$War" (53 : Nat) "ElephantLine$City" "name" "Ljava/lang/String;") ∈ lw_all := lw_g (lw_at lw_m3 234 rfl) rfl
theorem q913 : (Jvm.Cond.instanceMethod ({ cls := "ElephantLine$War", name := "pass", desc := "(II)I" } : Jvm.MethodName)) ∈ lw_all := lw_g (lw_at lw_m4 78 rfl) rfl
theorem q914 : (Jvm.Cond.selects "ElephantLine$War" ({ cls := "ElephantLine$War", name := "pass", desc := "(II)I" } : Jvm.MethodName) ({ cls := "ElephantLine$War", name := "pass", desc := "(II)I" } : Jvm.MethodName)) ∈ lw_all := lw_g (lw_at lw_m4 79 rfl) rfl
theorem q915 : (Jvm.Cond.code ({ cls := "ElephantLine$War", name := "pass", desc := "(II)I" } : Jvm.MethodName) prog_18_method_5_code (3 : Nat) (Option.some Jvm.ClassFile.FieldType.int)) ∈ lw_all := lw_g (lw_at lw_m4 80 rfl) rfl
theorem q1300 : (Jvm.Cond.instanceMethod ({ cls := "ElephantLine$War", name := "lost", desc := "(III)I" } : Jvm.MethodName)) ∈ lw_all := lw_g (lw_at lw_m5 225 rfl) rfl
theorem q1301 : (Jvm.Cond.selects "ElephantLine$War" ({ cls := "ElephantLine$War", name := "lost", desc := "(III)I" } : Jvm.MethodName) ({ cls := "ElephantLine$War", name := "lost", desc := "(III)I" } : Jvm.MethodName)) ∈ lw_all := lw_g (lw_at lw_m5 226 rfl) rfl
theorem q1302 : (Jvm.Cond.code ({ cls := "ElephantLine$War", name := "lost", desc := "(III)I" } : Jvm.MethodName) prog_18_method_4_code (4 : Nat) (Option.some Jvm.ClassFile.FieldType.int)) ∈ lw_all := lw_g (lw_at lw_m5 227 rfl) rfl
theorem q1303 : (Jvm.Cond.methodLink "ElephantLine$War" (58 : Nat) ({ cls := "ElephantLine$War", name := "pass", desc := "(II)I" } : Jvm.MethodName)) ∈ lw_all := lw_g (lw_at lw_m5 228 rfl) rfl
theorem q1345 : (Jvm.Cond.instanceMethod ({ cls := "ElephantLine$War", name := "turned", desc := "()I" } : Jvm.MethodName)) ∈ lw_all := lw_g (lw_at lw_m6 30 rfl) rfl
theorem q1346 : (Jvm.Cond.selects "ElephantLine$War" ({ cls := "ElephantLine$War", name := "turned", desc := "()I" } : Jvm.MethodName) ({ cls := "ElephantLine$War", name := "turned", desc := "()I" } : Jvm.MethodName)) ∈ lw_all := lw_g (lw_at lw_m6 31 rfl) rfl
theorem q1347 : (Jvm.Cond.code ({ cls := "ElephantLine$War", name := "turned", desc := "()I" } : Jvm.MethodName) prog_18_method_3_code (3 : Nat) (Option.some Jvm.ClassFile.FieldType.int)) ∈ lw_all := lw_g (lw_at lw_m6 32 rfl) rfl
theorem q2259 : (Jvm.Cond.castable "ElephantLine$War" "java/lang/Object") ∈ lw_tbl := lw_at lw_m9 224 rfl
theorem in_X8 : ∀ w ∈ wsX80, w ∈ lw_all := lw_in wsX80 [515, 517, 519, 521, 523, 525, 527, 529, 531, 533, 535, 537] (by decide +kernel) (by decide +kernel)
/-! ElephantLine$Stand -/
set_option maxRecDepth 100000
def RX9 : String := "ElephantLine$Stand"
abbrev cX9_init : ByteArray := prog_17_method_1_code
def yX9_init : MethodName := ⟨RX9, "<init>", "()V"⟩
theorem dX9_init_0 : decode cX9_init 0 = .ok (.aload_n 0, 1) := by decide +kernel
theorem dX9_init_1 : decode cX9_init 1 = .ok (.invokespecial 1, 3) := by decide +kernel
theorem dX9_init_4 : decode cX9_init 4 = .ok (.return_, 1) := by decide +kernel
abbrev cX9_kind : ByteArray := prog_17_method_2_code
def yX9_kind : MethodName := ⟨RX9, "kind", "()I"⟩
theorem dX9_kind_0 : decode cX9_kind 0 = .ok (.iconst 0, 1) := by decide +kernel
theorem dX9_kind_1 : decode cX9_kind 1 = .ok (.ireturn, 1) := by decide +kernel
abbrev cX9_own : ByteArray := prog_17_method_4_code
def yX9_own : MethodName := ⟨RX9, "own", "(LElephantLine$Beast;II)I"⟩
theorem dX9_own_0 : decode cX9_own 0 = .ok (.iconst 0, 1) := by decide +kernel
theorem dX9_own_1 : decode cX9_own 1 = .ok (.ireturn, 1) := by decide +kernel
abbrev cX9_foes : ByteArray := prog_17_method_3_code
def yX9_foes : MethodName := ⟨RX9, "foes", "(LElephantLine$Beast;II)I"⟩
theorem dX9_foes_0 : decode cX9_foes 0 = .ok (.iconst 0, 1) := by decide +kernel
theorem dX9_foes_1 : decode cX9_foes 1 = .ok (.ireturn, 1) := by decide +kernel
abbrev cX9_left : ByteArray := prog_17_method_5_code
def yX9_left : MethodName := ⟨RX9, "left", "(II)I"⟩
theorem dX9_left_0 : decode cX9_left 0 = .ok (.iload_n 1, 1) := by decide +kernel
theorem dX9_left_1 : decode cX9_left 1 = .ok (.ireturn, 1) := by decide +kernel
theorem q132 : (Jvm.Cond.initialized "ElephantLine$Stand") ∈ lw_all := lw_g (lw_at lw_m1 17 rfl) rfl
theorem q753 : (Jvm.Cond.instantiable "ElephantLine$Stand" (0 : Nat)) ∈ lw_all := lw_g (lw_at lw_m3 158 rfl) rfl
theorem q755 : (Jvm.Cond.instanceMethod ({ cls := "ElephantLine$Stand", name := "<init>", desc := "()V" } : Jvm.MethodName)) ∈ lw_all := lw_g (lw_at lw_m3 160 rfl) rfl
theorem q756 : (Jvm.Cond.code ({ cls := "ElephantLine$Stand", name := "<init>", desc := "()V" } : Jvm.MethodName) prog_17_method_1_code (1 : Nat) (Option.none : Option Jvm.ClassFile.FieldType)) ∈ lw_all := lw_g (lw_at lw_m3 161 rfl) rfl
theorem q757 : (Jvm.Cond.methodLink "ElephantLine$Stand" (1 : Nat) ({ cls := "java/lang/Object", name := "<init>", desc := "()V" } : Jvm.MethodName)) ∈ lw_all := lw_g (lw_at lw_m3 162 rfl) rfl
theorem q758 : (Jvm.Cond.superclass "ElephantLine$Stand" "java/lang/Object") ∈ lw_all := lw_g (lw_at lw_m3 163 rfl) rfl
theorem q946 : (Jvm.Cond.instanceMethod ({ cls := "ElephantLine$Stand", name := "kind", desc := "()I" } : Jvm.MethodName)) ∈ lw_all := lw_g (lw_at lw_m4 111 rfl) rfl
theorem q947 : (Jvm.Cond.selects "ElephantLine$Stand" ({ cls := "ElephantLine$Stand", name := "kind", desc := "()I" } : Jvm.MethodName) ({ cls := "ElephantLine$Stand", name := "kind", desc := "()I" } : Jvm.MethodName)) ∈ lw_all := lw_g (lw_at lw_m4 112 rfl) rfl
theorem q948 : (Jvm.Cond.sameMethod "ElephantLine$Stand" "ElephantLine$Stand" "kind" "()I") ∈ lw_all := lw_g (lw_at lw_m4 113 rfl) rfl
theorem q958 : (Jvm.Cond.code ({ cls := "ElephantLine$Stand", name := "kind", desc := "()I" } : Jvm.MethodName) prog_17_method_2_code (1 : Nat) (Option.some Jvm.ClassFile.FieldType.int)) ∈ lw_all := lw_g (lw_at lw_m4 123 rfl) rfl
theorem q1079 : (Jvm.Cond.instanceMethod ({ cls := "ElephantLine$Stand", name := "own", desc := "(LElephantLine$Beast;II)I" } : Jvm.MethodName)) ∈ lw_all := lw_g (lw_at lw_m5 4 rfl) rfl
theorem q1080 : (Jvm.Cond.selects "ElephantLine$Stand" ({ cls := "ElephantLine$Stand", name := "own", desc := "(LElephantLine$Beast;II)I" } : Jvm.MethodName) ({ cls := "ElephantLine$Stand", name := "own", desc := "(LElephantLine$Beast;II)I" } : Jvm.MethodName)) ∈ lw_all := lw_g (lw_at lw_m5 5 rfl) rfl
theorem q1081 : (Jvm.Cond.sameMethod "ElephantLine$Stand" "ElephantLine$Stand" "own" "(LElephantLine$Beast;II)I") ∈ lw_all := lw_g (lw_at lw_m5 6 rfl) rfl
theorem q1099 : (Jvm.Cond.code ({ cls := "ElephantLine$Stand", name := "own", desc := "(LElephantLine$Beast;II)I" } : Jvm.MethodName) prog_17_method_4_code (4 : Nat) (Option.some Jvm.ClassFile.FieldType.int)) ∈ lw_all := lw_g (lw_at lw_m5 24 rfl) rfl
theorem q1105 : (Jvm.Cond.instanceMethod ({ cls := "ElephantLine$Stand", name := "foes", desc := "(LElephantLine$Beast;II)I" } : Jvm.MethodName)) ∈ lw_all := lw_g (lw_at lw_m5 30 rfl) rfl
theorem q1106 : (Jvm.Cond.selects "ElephantLine$Stand" ({ cls := "ElephantLine$Stand", name := "foes", desc := "(LElephantLine$Beast;II)I" } : Jvm.MethodName) ({ cls := "ElephantLine$Stand", name := "foes", desc := "(LElephantLine$Beast;II)I" } : Jvm.MethodName)) ∈ lw_all := lw_g (lw_at lw_m5 31 rfl) rfl
theorem q1107 : (Jvm.Cond.sameMethod "ElephantLine$Stand" "ElephantLine$Stand" "foes" "(LElephantLine$Beast;II)I") ∈ lw_all := lw_g (lw_at lw_m5 32 rfl) rfl
theorem q1118 : (Jvm.Cond.code ({ cls := "ElephantLine$Stand", name := "foes", desc := "(LElephantLine$Beast;II)I" } : Jvm.MethodName) prog_17_method_3_code (4 : Nat) (Option.some Jvm.ClassFile.FieldType.int)) ∈ lw_all := lw_g (lw_at lw_m5 43 rfl) rfl
theorem q1388 : (Jvm.Cond.instanceMethod ({ cls := "ElephantLine$Stand", name := "left", desc := "(II)I" } : Jvm.MethodName)) ∈ lw_all := lw_g (lw_at lw_m6 73 rfl) rfl
theorem q1389 : (Jvm.Cond.selects "ElephantLine$Stand" ({ cls := "ElephantLine$Stand", name := "left", desc := "(II)I" } : Jvm.MethodName) ({ cls := "ElephantLine$Stand", name := "left", desc := "(II)I" } : Jvm.MethodName)) ∈ lw_all := lw_g (lw_at lw_m6 74 rfl) rfl
theorem q1390 : (Jvm.Cond.sameMethod "ElephantLine$Stand" "ElephantLine$Stand" "left" "(II)I") ∈ lw_all := lw_g (lw_at lw_m6 75 rfl) rfl
theorem q1395 : (Jvm.Cond.code ({ cls := "ElephantLine$Stand", name := "left", desc := "(II)I" } : Jvm.MethodName) prog_17_method_5_code (3 : Nat) (Option.some Jvm.ClassFile.FieldType.int)) ∈ lw_all := lw_g (lw_at lw_m6 80 rfl) rfl
theorem q2262 : (Jvm.Cond.castable "ElephantLine$Stand" "java/lang/Object") ∈ lw_tbl := lw_at lw_m9 227 rfl
/-! ElephantLine$Pigs -/
set_option maxRecDepth 100000
def RX10 : String := "ElephantLine$Pigs"
abbrev cX10_init : ByteArray := prog_12_method_1_code
def yX10_init : MethodName := ⟨RX10, "<init>", "()V"⟩
theorem dX10_init_0 : decode cX10_init 0 = .ok (.aload_n 0, 1) := by decide +kernel
theorem dX10_init_1 : decode cX10_init 1 = .ok (.invokespecial 1, 3) := by decide +kernel
theorem dX10_init_4 : decode cX10_init 4 = .ok (.return_, 1) := by decide +kernel
abbrev cX10_kind : ByteArray := prog_12_method_2_code
def yX10_kind : MethodName := ⟨RX10, "kind", "()I"⟩
theorem dX10_kind_0 : decode cX10_kind 0 = .ok (.iconst 1, 1) := by decide +kernel
theorem dX10_kind_1 : decode cX10_kind 1 = .ok (.ireturn, 1) := by decide +kernel
abbrev cX10_own : ByteArray := prog_12_method_4_code
def yX10_own : MethodName := ⟨RX10, "own", "(LElephantLine$Beast;II)I"⟩
def dkwX10_own_0 : List UInt8 := [43, 182, 0, 7, 153, 0, 7, 3, 167, 0, 4, 28, 172]
abbrev dktX10_own_0 : List UInt8 := dkwX10_own_0 ++ []
theorem dksX10_own_0 : cX10_own.data.toList.drop 0 = dktX10_own_0 := by decide +kernel
theorem dX10_own_0 : decode cX10_own 0 = .ok (.aload_n 1, 1) := dk_43 (dk_at dksX10_own_0 0 rfl rfl)
theorem dX10_own_1 : decode cX10_own 1 = .ok (.invokevirtual 7, 3) := dk_182 0 7 (dk_at dksX10_own_0 1 rfl rfl)
theorem dX10_own_4 : decode cX10_own 4 = .ok (.ifCond .eq 7, 3) := dk_153 0 7 (dk_at dksX10_own_0 4 rfl rfl)
theorem dX10_own_7 : decode cX10_own 7 = .ok (.iconst 0, 1) := dk_3 (dk_at dksX10_own_0 7 rfl rfl)
theorem dX10_own_8 : decode cX10_own 8 = .ok (.goto 4, 3) := dk_167 0 4 (dk_at dksX10_own_0 8 rfl rfl)
theorem dX10_own_11 : decode cX10_own 11 = .ok (.iload_n 2, 1) := dk_28 (dk_at dksX10_own_0 11 rfl rfl)
theorem dX10_own_12 : decode cX10_own 12 = .ok (.ireturn, 1) := dk_172 (dk_at dksX10_own_0 12 rfl rfl)
abbrev cX10_foes : ByteArray := prog_12_method_3_code
def yX10_foes : MethodName := ⟨RX10, "foes", "(LElephantLine$Beast;II)I"⟩
def dkwX10_foes_0 : List UInt8 := [43, 182, 0, 7, 153, 0, 8, 16, 10, 167, 0, 4, 3, 172]
abbrev dktX10_foes_0 : List UInt8 := dkwX10_foes_0 ++ []
theorem dksX10_foes_0 : cX10_foes.data.toList.drop 0 = dktX10_foes_0 := by decide +kernel
theorem dX10_foes_0 : decode cX10_foes 0 = .ok (.aload_n 1, 1) := dk_43 (dk_at dksX10_foes_0 0 rfl rfl)
theorem dX10_foes_1 : decode cX10_foes 1 = .ok (.invokevirtual 7, 3) := dk_182 0 7 (dk_at dksX10_foes_0 1 rfl rfl)
theorem dX10_foes_4 : decode cX10_foes 4 = .ok (.ifCond .eq 8, 3) := dk_153 0 8 (dk_at dksX10_foes_0 4 rfl rfl)
theorem dX10_foes_7 : decode cX10_foes 7 = .ok (.bipush 10, 2) := dk_16 10 (dk_at dksX10_foes_0 7 rfl rfl)
theorem dX10_foes_9 : decode cX10_foes 9 = .ok (.goto 4, 3) := dk_167 0 4 (dk_at dksX10_foes_0 9 rfl rfl)
theorem dX10_foes_12 : decode cX10_foes 12 = .ok (.iconst 0, 1) := dk_3 (dk_at dksX10_foes_0 12 rfl rfl)
theorem dX10_foes_13 : decode cX10_foes 13 = .ok (.ireturn, 1) := dk_172 (dk_at dksX10_foes_0 13 rfl rfl)
theorem q133 : (Jvm.Cond.initialized "ElephantLine$Pigs") ∈ lw_all := lw_g (lw_at lw_m1 18 rfl) rfl
theorem q761 : (Jvm.Cond.instantiable "ElephantLine$Pigs" (0 : Nat)) ∈ lw_all := lw_g (lw_at lw_m3 166 rfl) rfl
theorem q763 : (Jvm.Cond.instanceMethod ({ cls := "ElephantLine$Pigs", name := "<init>", desc := "()V" } : Jvm.MethodName)) ∈ lw_all := lw_g (lw_at lw_m3 168 rfl) rfl
theorem q764 : (Jvm.Cond.code ({ cls := "ElephantLine$Pigs", name := "<init>", desc := "()V" } : Jvm.MethodName) prog_12_method_1_code (1 : Nat) (Option.none : Option Jvm.ClassFile.FieldType)) ∈ lw_all := lw_g (lw_at lw_m3 169 rfl) rfl
theorem q765 : (Jvm.Cond.methodLinkNest "ElephantLine$Pigs" (1 : Nat) ({ cls := "ElephantLine$Stand", name := "<init>", desc := "()V" } : Jvm.MethodName) "ElephantLine") ∈ lw_tbl := lw_at lw_m3 170 rfl
theorem q766 : (Jvm.Cond.superclass "ElephantLine$Pigs" "ElephantLine$Stand") ∈ lw_all := lw_g (lw_at lw_m3 171 rfl) rfl
theorem q955 : (Jvm.Cond.selects "ElephantLine$Pigs" ({ cls := "ElephantLine$Stand", name := "kind", desc := "()I" } : Jvm.MethodName) ({ cls := "ElephantLine$Pigs", name := "kind", desc := "()I" } : Jvm.MethodName)) ∈ lw_all := lw_g (lw_at lw_m4 120 rfl) rfl
theorem q956 : (Jvm.Cond.instanceMethod ({ cls := "ElephantLine$Pigs", name := "kind", desc := "()I" } : Jvm.MethodName)) ∈ lw_all := lw_g (lw_at lw_m4 121 rfl) rfl
theorem q957 : (Jvm.Cond.code ({ cls := "ElephantLine$Pigs", name := "kind", desc := "()I" } : Jvm.MethodName) prog_12_method_2_code (1 : Nat) (Option.some Jvm.ClassFile.FieldType.int)) ∈ lw_all := lw_g (lw_at lw_m4 122 rfl) rfl
theorem q1086 : (Jvm.Cond.selects "ElephantLine$Pigs" ({ cls := "ElephantLine$Stand", name := "own", desc := "(LElephantLine$Beast;II)I" } : Jvm.MethodName) ({ cls := "ElephantLine$Pigs", name := "own", desc := "(LElephantLine$Beast;II)I" } : Jvm.MethodName)) ∈ lw_all := lw_g (lw_at lw_m5 11 rfl) rfl
theorem q1087 : (Jvm.Cond.instanceMethod ({ cls := "ElephantLine$Pigs", name := "own", desc := "(LElephantLine$Beast;II)I" } : Jvm.MethodName)) ∈ lw_all := lw_g (lw_at lw_m5 12 rfl) rfl
theorem q1088 : (Jvm.Cond.code ({ cls := "ElephantLine$Pigs", name := "own", desc := "(LElephantLine$Beast;II)I" } : Jvm.MethodName) prog_12_method_4_code (4 : Nat) (Option.some Jvm.ClassFile.FieldType.int)) ∈ lw_all := lw_g (lw_at lw_m5 13 rfl) rfl
theorem q1089 : (Jvm.Cond.methodLink "ElephantLine$Pigs" (7 : Nat) ({ cls := "ElephantLine$Beast", name := "isFearless", desc := "()Z" } : Jvm.MethodName)) ∈ lw_all := lw_g (lw_at lw_m5 14 rfl) rfl
theorem q1115 : (Jvm.Cond.selects "ElephantLine$Pigs" ({ cls := "ElephantLine$Stand", name := "foes", desc := "(LElephantLine$Beast;II)I" } : Jvm.MethodName) ({ cls := "ElephantLine$Pigs", name := "foes", desc := "(LElephantLine$Beast;II)I" } : Jvm.MethodName)) ∈ lw_all := lw_g (lw_at lw_m5 40 rfl) rfl
theorem q1116 : (Jvm.Cond.instanceMethod ({ cls := "ElephantLine$Pigs", name := "foes", desc := "(LElephantLine$Beast;II)I" } : Jvm.MethodName)) ∈ lw_all := lw_g (lw_at lw_m5 41 rfl) rfl
theorem q1117 : (Jvm.Cond.code ({ cls := "ElephantLine$Pigs", name := "foes", desc := "(LElephantLine$Beast;II)I" } : Jvm.MethodName) prog_12_method_3_code (4 : Nat) (Option.some Jvm.ClassFile.FieldType.int)) ∈ lw_all := lw_g (lw_at lw_m5 42 rfl) rfl
theorem q1397 : (Jvm.Cond.selects "ElephantLine$Pigs" ({ cls := "ElephantLine$Stand", name := "left", desc := "(II)I" } : Jvm.MethodName) ({ cls := "ElephantLine$Stand", name := "left", desc := "(II)I" } : Jvm.MethodName)) ∈ lw_all := lw_g (lw_at lw_m6 82 rfl) rfl
theorem q2263 : (Jvm.Cond.castable "ElephantLine$Pigs" "java/lang/Object") ∈ lw_tbl := lw_at lw_m9 228 rfl
theorem q2274 : (Jvm.Cond.castable "ElephantLine$Pigs" "ElephantLine$Stand") ∈ lw_tbl := lw_at lw_m9 239 rfl
/-! ElephantLine$Foot -/
set_option maxRecDepth 100000
def RX11 : String := "ElephantLine$Foot"
abbrev cX11_init : ByteArray := prog_6_method_1_code
def yX11_init : MethodName := ⟨RX11, "<init>", "()V"⟩
theorem dX11_init_0 : decode cX11_init 0 = .ok (.aload_n 0, 1) := by decide +kernel
theorem dX11_init_1 : decode cX11_init 1 = .ok (.invokespecial 1, 3) := by decide +kernel
theorem dX11_init_4 : decode cX11_init 4 = .ok (.return_, 1) := by decide +kernel
abbrev cX11_kind : ByteArray := prog_6_method_2_code
def yX11_kind : MethodName := ⟨RX11, "kind", "()I"⟩
theorem dX11_kind_0 : decode cX11_kind 0 = .ok (.iconst 2, 1) := by decide +kernel
theorem dX11_kind_1 : decode cX11_kind 1 = .ok (.ireturn, 1) := by decide +kernel
abbrev cX11_own : ByteArray := prog_6_method_4_code
def yX11_own : MethodName := ⟨RX11, "own", "(LElephantLine$Beast;II)I"⟩
def dkwX11_own_0 : List UInt8 := [28, 29, 164, 0, 7, 3, 167, 0, 4, 28, 172]
abbrev dktX11_own_0 : List UInt8 := dkwX11_own_0 ++ []
theorem dksX11_own_0 : cX11_own.data.toList.drop 0 = dktX11_own_0 := by decide +kernel
theorem dX11_own_0 : decode cX11_own 0 = .ok (.iload_n 2, 1) := dk_28 (dk_at dksX11_own_0 0 rfl rfl)
theorem dX11_own_1 : decode cX11_own 1 = .ok (.iload_n 3, 1) := dk_29 (dk_at dksX11_own_0 1 rfl rfl)
theorem dX11_own_2 : decode cX11_own 2 = .ok (.if_icmp .le 7, 3) := dk_164 0 7 (dk_at dksX11_own_0 2 rfl rfl)
theorem dX11_own_5 : decode cX11_own 5 = .ok (.iconst 0, 1) := dk_3 (dk_at dksX11_own_0 5 rfl rfl)
theorem dX11_own_6 : decode cX11_own 6 = .ok (.goto 4, 3) := dk_167 0 4 (dk_at dksX11_own_0 6 rfl rfl)
theorem dX11_own_9 : decode cX11_own 9 = .ok (.iload_n 2, 1) := dk_28 (dk_at dksX11_own_0 9 rfl rfl)
theorem dX11_own_10 : decode cX11_own 10 = .ok (.ireturn, 1) := dk_172 (dk_at dksX11_own_0 10 rfl rfl)
abbrev cX11_foes : ByteArray := prog_6_method_3_code
def yX11_foes : MethodName := ⟨RX11, "foes", "(LElephantLine$Beast;II)I"⟩
def dkwX11_foes_0 : List UInt8 := [28, 29, 164, 0, 7, 29, 167, 0, 6, 28, 5, 108, 172]
abbrev dktX11_foes_0 : List UInt8 := dkwX11_foes_0 ++ []
theorem dksX11_foes_0 : cX11_foes.data.toList.drop 0 = dktX11_foes_0 := by decide +kernel
theorem dX11_foes_0 : decode cX11_foes 0 = .ok (.iload_n 2, 1) := dk_28 (dk_at dksX11_foes_0 0 rfl rfl)
theorem dX11_foes_1 : decode cX11_foes 1 = .ok (.iload_n 3, 1) := dk_29 (dk_at dksX11_foes_0 1 rfl rfl)
theorem dX11_foes_2 : decode cX11_foes 2 = .ok (.if_icmp .le 7, 3) := dk_164 0 7 (dk_at dksX11_foes_0 2 rfl rfl)
theorem dX11_foes_5 : decode cX11_foes 5 = .ok (.iload_n 3, 1) := dk_29 (dk_at dksX11_foes_0 5 rfl rfl)
theorem dX11_foes_6 : decode cX11_foes 6 = .ok (.goto 6, 3) := dk_167 0 6 (dk_at dksX11_foes_0 6 rfl rfl)
theorem dX11_foes_9 : decode cX11_foes 9 = .ok (.iload_n 2, 1) := dk_28 (dk_at dksX11_foes_0 9 rfl rfl)
theorem dX11_foes_10 : decode cX11_foes 10 = .ok (.iconst 2, 1) := dk_5 (dk_at dksX11_foes_0 10 rfl rfl)
theorem dX11_foes_11 : decode cX11_foes 11 = .ok (.idiv, 1) := dk_108 (dk_at dksX11_foes_0 11 rfl rfl)
theorem dX11_foes_12 : decode cX11_foes 12 = .ok (.ireturn, 1) := dk_172 (dk_at dksX11_foes_0 12 rfl rfl)
abbrev cX11_left : ByteArray := prog_6_method_5_code
def yX11_left : MethodName := ⟨RX11, "left", "(II)I"⟩
def dkwX11_left_0 : List UInt8 := [42, 27, 28, 183, 0, 7, 28, 100, 172]
abbrev dktX11_left_0 : List UInt8 := dkwX11_left_0 ++ []
theorem dksX11_left_0 : cX11_left.data.toList.drop 0 = dktX11_left_0 := by decide +kernel
theorem dX11_left_0 : decode cX11_left 0 = .ok (.aload_n 0, 1) := dk_42 (dk_at dksX11_left_0 0 rfl rfl)
theorem dX11_left_1 : decode cX11_left 1 = .ok (.iload_n 1, 1) := dk_27 (dk_at dksX11_left_0 1 rfl rfl)
theorem dX11_left_2 : decode cX11_left 2 = .ok (.iload_n 2, 1) := dk_28 (dk_at dksX11_left_0 2 rfl rfl)
theorem dX11_left_3 : decode cX11_left 3 = .ok (.invokespecial 7, 3) := dk_183 0 7 (dk_at dksX11_left_0 3 rfl rfl)
theorem dX11_left_6 : decode cX11_left 6 = .ok (.iload_n 2, 1) := dk_28 (dk_at dksX11_left_0 6 rfl rfl)
theorem dX11_left_7 : decode cX11_left 7 = .ok (.isub, 1) := dk_100 (dk_at dksX11_left_0 7 rfl rfl)
theorem dX11_left_8 : decode cX11_left 8 = .ok (.ireturn, 1) := dk_172 (dk_at dksX11_left_0 8 rfl rfl)
theorem q134 : (Jvm.Cond.initialized "ElephantLine$Foot") ∈ lw_all := lw_g (lw_at lw_m1 19 rfl) rfl
theorem q769 : (Jvm.Cond.instantiable "ElephantLine$Foot" (0 : Nat)) ∈ lw_all := lw_g (lw_at lw_m3 174 rfl) rfl
theorem q771 : (Jvm.Cond.instanceMethod ({ cls := "ElephantLine$Foot", name := "<init>", desc := "()V" } : Jvm.MethodName)) ∈ lw_all := lw_g (lw_at lw_m3 176 rfl) rfl
theorem q772 : (Jvm.Cond.code ({ cls := "ElephantLine$Foot", name := "<init>", desc := "()V" } : Jvm.MethodName) prog_6_method_1_code (1 : Nat) (Option.none : Option Jvm.ClassFile.FieldType)) ∈ lw_all := lw_g (lw_at lw_m3 177 rfl) rfl
theorem q773 : (Jvm.Cond.methodLinkNest "ElephantLine$Foot" (1 : Nat) ({ cls := "ElephantLine$Stand", name := "<init>", desc := "()V" } : Jvm.MethodName) "ElephantLine") ∈ lw_tbl := lw_at lw_m3 178 rfl
theorem q774 : (Jvm.Cond.superclass "ElephantLine$Foot" "ElephantLine$Stand") ∈ lw_all := lw_g (lw_at lw_m3 179 rfl) rfl
theorem q949 : (Jvm.Cond.selects "ElephantLine$Foot" ({ cls := "ElephantLine$Stand", name := "kind", desc := "()I" } : Jvm.MethodName) ({ cls := "ElephantLine$Foot", name := "kind", desc := "()I" } : Jvm.MethodName)) ∈ lw_all := lw_g (lw_at lw_m4 114 rfl) rfl
theorem q950 : (Jvm.Cond.instanceMethod ({ cls := "ElephantLine$Foot", name := "kind", desc := "()I" } : Jvm.MethodName)) ∈ lw_all := lw_g (lw_at lw_m4 115 rfl) rfl
theorem q951 : (Jvm.Cond.code ({ cls := "ElephantLine$Foot", name := "kind", desc := "()I" } : Jvm.MethodName) prog_6_method_2_code (1 : Nat) (Option.some Jvm.ClassFile.FieldType.int)) ∈ lw_all := lw_g (lw_at lw_m4 116 rfl) rfl
theorem q1082 : (Jvm.Cond.selects "ElephantLine$Foot" ({ cls := "ElephantLine$Stand", name := "own", desc := "(LElephantLine$Beast;II)I" } : Jvm.MethodName) ({ cls := "ElephantLine$Foot", name := "own", desc := "(LElephantLine$Beast;II)I" } : Jvm.MethodName)) ∈ lw_all := lw_g (lw_at lw_m5 7 rfl) rfl
theorem q1083 : (Jvm.Cond.instanceMethod ({ cls := "ElephantLine$Foot", name := "own", desc := "(LElephantLine$Beast;II)I" } : Jvm.MethodName)) ∈ lw_all := lw_g (lw_at lw_m5 8 rfl) rfl
theorem q1084 : (Jvm.Cond.code ({ cls := "ElephantLine$Foot", name := "own", desc := "(LElephantLine$Beast;II)I" } : Jvm.MethodName) prog_6_method_4_code (4 : Nat) (Option.some Jvm.ClassFile.FieldType.int)) ∈ lw_all := lw_g (lw_at lw_m5 9 rfl) rfl
theorem q1108 : (Jvm.Cond.selects "ElephantLine$Foot" ({ cls := "ElephantLine$Stand", name := "foes", desc := "(LElephantLine$Beast;II)I" } : Jvm.MethodName) ({ cls := "ElephantLine$Foot", name := "foes", desc := "(LElephantLine$Beast;II)I" } : Jvm.MethodName)) ∈ lw_all := lw_g (lw_at lw_m5 33 rfl) rfl
theorem q1109 : (Jvm.Cond.instanceMethod ({ cls := "ElephantLine$Foot", name := "foes", desc := "(LElephantLine$Beast;II)I" } : Jvm.MethodName)) ∈ lw_all := lw_g (lw_at lw_m5 34 rfl) rfl
theorem q1110 : (Jvm.Cond.code ({ cls := "ElephantLine$Foot", name := "foes", desc := "(LElephantLine$Beast;II)I" } : Jvm.MethodName) prog_6_method_3_code (4 : Nat) (Option.some Jvm.ClassFile.FieldType.int)) ∈ lw_all := lw_g (lw_at lw_m5 35 rfl) rfl
theorem q1391 : (Jvm.Cond.selects "ElephantLine$Foot" ({ cls := "ElephantLine$Stand", name := "left", desc := "(II)I" } : Jvm.MethodName) ({ cls := "ElephantLine$Foot", name := "left", desc := "(II)I" } : Jvm.MethodName)) ∈ lw_all := lw_g (lw_at lw_m6 76 rfl) rfl
theorem q1392 : (Jvm.Cond.instanceMethod ({ cls := "ElephantLine$Foot", name := "left", desc := "(II)I" } : Jvm.MethodName)) ∈ lw_all := lw_g (lw_at lw_m6 77 rfl) rfl
theorem q1393 : (Jvm.Cond.code ({ cls := "ElephantLine$Foot", name := "left", desc := "(II)I" } : Jvm.MethodName) prog_6_method_5_code (3 : Nat) (Option.some Jvm.ClassFile.FieldType.int)) ∈ lw_all := lw_g (lw_at lw_m6 78 rfl) rfl
theorem q1394 : (Jvm.Cond.methodLink "ElephantLine$Foot" (7 : Nat) ({ cls := "ElephantLine$Stand", name := "left", desc := "(II)I" } : Jvm.MethodName)) ∈ lw_all := lw_g (lw_at lw_m6 79 rfl) rfl
theorem q2264 : (Jvm.Cond.castable "ElephantLine$Foot" "java/lang/Object") ∈ lw_tbl := lw_at lw_m9 229 rfl
theorem q2275 : (Jvm.Cond.castable "ElephantLine$Foot" "ElephantLine$Stand") ∈ lw_tbl := lw_at lw_m10 0 rfl
/-! ElephantLine$Horse -/
set_option maxRecDepth 100000
def RX12 : String := "ElephantLine$Horse"
abbrev cX12_init : ByteArray := prog_8_method_1_code
def yX12_init : MethodName := ⟨RX12, "<init>", "()V"⟩
theorem dX12_init_0 : decode cX12_init 0 = .ok (.aload_n 0, 1) := by decide +kernel
theorem dX12_init_1 : decode cX12_init 1 = .ok (.invokespecial 1, 3) := by decide +kernel
theorem dX12_init_4 : decode cX12_init 4 = .ok (.return_, 1) := by decide +kernel
abbrev cX12_kind : ByteArray := prog_8_method_2_code
def yX12_kind : MethodName := ⟨RX12, "kind", "()I"⟩
theorem dX12_kind_0 : decode cX12_kind 0 = .ok (.iconst 3, 1) := by decide +kernel
theorem dX12_kind_1 : decode cX12_kind 1 = .ok (.ireturn, 1) := by decide +kernel
abbrev cX12_foes : ByteArray := prog_8_method_3_code
def yX12_foes : MethodName := ⟨RX12, "foes", "(LElephantLine$Beast;II)I"⟩
def dkwX12_foes_0 : List UInt8 := [29, 16, 8, 162, 0, 8, 16, 15, 167, 0, 10, 3, 28, 29, 100, 184, 0, 7, 172]
abbrev dktX12_foes_0 : List UInt8 := dkwX12_foes_0 ++ []
theorem dksX12_foes_0 : cX12_foes.data.toList.drop 0 = dktX12_foes_0 := by decide +kernel
theorem dX12_foes_0 : decode cX12_foes 0 = .ok (.iload_n 3, 1) := dk_29 (dk_at dksX12_foes_0 0 rfl rfl)
theorem dX12_foes_1 : decode cX12_foes 1 = .ok (.bipush 8, 2) := dk_16 8 (dk_at dksX12_foes_0 1 rfl rfl)
theorem dX12_foes_3 : decode cX12_foes 3 = .ok (.if_icmp .ge 8, 3) := dk_162 0 8 (dk_at dksX12_foes_0 3 rfl rfl)
theorem dX12_foes_6 : decode cX12_foes 6 = .ok (.bipush 15, 2) := dk_16 15 (dk_at dksX12_foes_0 6 rfl rfl)
theorem dX12_foes_8 : decode cX12_foes 8 = .ok (.goto 10, 3) := dk_167 0 10 (dk_at dksX12_foes_0 8 rfl rfl)
theorem dX12_foes_11 : decode cX12_foes 11 = .ok (.iconst 0, 1) := dk_3 (dk_at dksX12_foes_0 11 rfl rfl)
theorem dX12_foes_12 : decode cX12_foes 12 = .ok (.iload_n 2, 1) := dk_28 (dk_at dksX12_foes_0 12 rfl rfl)
theorem dX12_foes_13 : decode cX12_foes 13 = .ok (.iload_n 3, 1) := dk_29 (dk_at dksX12_foes_0 13 rfl rfl)
theorem dX12_foes_14 : decode cX12_foes 14 = .ok (.isub, 1) := dk_100 (dk_at dksX12_foes_0 14 rfl rfl)
theorem dX12_foes_15 : decode cX12_foes 15 = .ok (.invokestatic 7, 3) := dk_184 0 7 (dk_at dksX12_foes_0 15 rfl rfl)
theorem dX12_foes_18 : decode cX12_foes 18 = .ok (.ireturn, 1) := dk_172 (dk_at dksX12_foes_0 18 rfl rfl)
theorem q135 : (Jvm.Cond.initialized "ElephantLine$Horse") ∈ lw_all := lw_g (lw_at lw_m1 20 rfl) rfl
theorem q777 : (Jvm.Cond.instantiable "ElephantLine$Horse" (0 : Nat)) ∈ lw_all := lw_g (lw_at lw_m3 182 rfl) rfl
theorem q779 : (Jvm.Cond.instanceMethod ({ cls := "ElephantLine$Horse", name := "<init>", desc := "()V" } : Jvm.MethodName)) ∈ lw_all := lw_g (lw_at lw_m3 184 rfl) rfl
theorem q780 : (Jvm.Cond.code ({ cls := "ElephantLine$Horse", name := "<init>", desc := "()V" } : Jvm.MethodName) prog_8_method_1_code (1 : Nat) (Option.none : Option Jvm.ClassFile.FieldType)) ∈ lw_all := lw_g (lw_at lw_m3 185 rfl) rfl
theorem q781 : (Jvm.Cond.methodLinkNest "ElephantLine$Horse" (1 : Nat) ({ cls := "ElephantLine$Stand", name := "<init>", desc := "()V" } : Jvm.MethodName) "ElephantLine") ∈ lw_tbl := lw_at lw_m3 186 rfl
theorem q782 : (Jvm.Cond.superclass "ElephantLine$Horse" "ElephantLine$Stand") ∈ lw_all := lw_g (lw_at lw_m3 187 rfl) rfl
theorem q952 : (Jvm.Cond.selects "ElephantLine$Horse" ({ cls := "ElephantLine$Stand", name := "kind", desc := "()I" } : Jvm.MethodName) ({ cls := "ElephantLine$Horse", name := "kind", desc := "()I" } : Jvm.MethodName)) ∈ lw_all := lw_g (lw_at lw_m4 117 rfl) rfl
theorem q953 : (Jvm.Cond.instanceMethod ({ cls := "ElephantLine$Horse", name := "kind", desc := "()I" } : Jvm.MethodName)) ∈ lw_all := lw_g (lw_at lw_m4 118 rfl) rfl
theorem q954 : (Jvm.Cond.code ({ cls := "ElephantLine$Horse", name := "kind", desc := "()I" } : Jvm.MethodName) prog_8_method_2_code (1 : Nat) (Option.some Jvm.ClassFile.FieldType.int)) ∈ lw_all := lw_g (lw_at lw_m4 119 rfl) rfl
theorem q1085 : (Jvm.Cond.selects "ElephantLine$Horse" ({ cls := "ElephantLine$Stand", name := "own", desc := "(LElephantLine$Beast;II)I" } : Jvm.MethodName) ({ cls := "ElephantLine$Stand", name := "own", desc := "(LElephantLine$Beast;II)I" } : Jvm.MethodName)) ∈ lw_all := lw_g (lw_at lw_m5 10 rfl) rfl
theorem q1111 : (Jvm.Cond.selects "ElephantLine$Horse" ({ cls := "ElephantLine$Stand", name := "foes", desc := "(LElephantLine$Beast;II)I" } : Jvm.MethodName) ({ cls := "ElephantLine$Horse", name := "foes", desc := "(LElephantLine$Beast;II)I" } : Jvm.MethodName)) ∈ lw_all := lw_g (lw_at lw_m5 36 rfl) rfl
theorem q1112 : (Jvm.Cond.instanceMethod ({ cls := "ElephantLine$Horse", name := "foes", desc := "(LElephantLine$Beast;II)I" } : Jvm.MethodName)) ∈ lw_all := lw_g (lw_at lw_m5 37 rfl) rfl
theorem q1113 : (Jvm.Cond.code ({ cls := "ElephantLine$Horse", name := "foes", desc := "(LElephantLine$Beast;II)I" } : Jvm.MethodName) prog_8_method_3_code (4 : Nat) (Option.some Jvm.ClassFile.FieldType.int)) ∈ lw_all := lw_g (lw_at lw_m5 38 rfl) rfl
theorem q1114 : (Jvm.Cond.methodLink "ElephantLine$Horse" (7 : Nat) ({ cls := "java/lang/Math", name := "max", desc := "(II)I" } : Jvm.MethodName)) ∈ lw_all := lw_g (lw_at lw_m5 39 rfl) rfl
theorem q1396 : (Jvm.Cond.selects "ElephantLine$Horse" ({ cls := "ElephantLine$Stand", name := "left", desc := "(II)I" } : Jvm.MethodName) ({ cls := "ElephantLine$Stand", name := "left", desc := "(II)I" } : Jvm.MethodName)) ∈ lw_all := lw_g (lw_at lw_m6 81 rfl) rfl
theorem q2265 : (Jvm.Cond.castable "ElephantLine$Horse" "java/lang/Object") ∈ lw_tbl := lw_at lw_m9 230 rfl
theorem q2276 : (Jvm.Cond.castable "ElephantLine$Horse" "ElephantLine$Stand") ∈ lw_tbl := lw_at lw_m10 1 rfl
/-! ElephantLine$Named -/
set_option maxRecDepth 100000
def RX13 : String := "ElephantLine$Named"
abbrev cX13_init : ByteArray := prog_11_method_1_code
def yX13_init : MethodName := ⟨RX13, "<init>", "(Ljava/lang/String;I)V"⟩
def dkwX13_init_0 : List UInt8 := [42, 183, 0, 1, 42, 43, 181, 0, 7, 42, 28, 181, 0, 13, 177]
abbrev dktX13_init_0 : List UInt8 := dkwX13_init_0 ++ []
theorem dksX13_init_0 : cX13_init.data.toList.drop 0 = dktX13_init_0 := by decide +kernel
theorem dX13_init_0 : decode cX13_init 0 = .ok (.aload_n 0, 1) := dk_42 (dk_at dksX13_init_0 0 rfl rfl)
theorem dX13_init_1 : decode cX13_init 1 = .ok (.invokespecial 1, 3) := dk_183 0 1 (dk_at dksX13_init_0 1 rfl rfl)
theorem dX13_init_4 : decode cX13_init 4 = .ok (.aload_n 0, 1) := dk_42 (dk_at dksX13_init_0 4 rfl rfl)
theorem dX13_init_5 : decode cX13_init 5 = .ok (.aload_n 1, 1) := dk_43 (dk_at dksX13_init_0 5 rfl rfl)
theorem dX13_init_6 : decode cX13_init 6 = .ok (.putfield 7, 3) := dk_181 0 7 (dk_at dksX13_init_0 6 rfl rfl)
theorem dX13_init_9 : decode cX13_init 9 = .ok (.aload_n 0, 1) := dk_42 (dk_at dksX13_init_0 9 rfl rfl)
theorem dX13_init_10 : decode cX13_init 10 = .ok (.iload_n 2, 1) := dk_28 (dk_at dksX13_init_0 10 rfl rfl)
theorem dX13_init_11 : decode cX13_init 11 = .ok (.putfield 13, 3) := dk_181 0 13 (dk_at dksX13_init_0 11 rfl rfl)
theorem dX13_init_14 : decode cX13_init 14 = .ok (.return_, 1) := dk_177 (dk_at dksX13_init_0 14 rfl rfl)
theorem q136 : (Jvm.Cond.initialized "ElephantLine$Named") ∈ lw_all := lw_g (lw_at lw_m1 21 rfl) rfl
theorem q814 : (Jvm.Cond.instanceMethod ({ cls := "ElephantLine$Named", name := "<init>", desc := "(Ljava/lang/String;I)V" } : Jvm.MethodName)) ∈ lw_all := lw_g (lw_at lw_m3 219 rfl) rfl
theorem q815 : (Jvm.Cond.code ({ cls := "ElephantLine$Named", name := "<init>", desc := "(Ljava/lang/String;I)V" } : Jvm.MethodName) prog_11_method_1_code (3 : Nat) (Option.none : Option Jvm.ClassFile.FieldType)) ∈ lw_all := lw_g (lw_at lw_m3 220 rfl) rfl
theorem q816 : (Jvm.Cond.methodLink "ElephantLine$Named" (1 : Nat) ({ cls := "java/lang/Object", name := "<init>", desc := "()V" } : Jvm.MethodName)) ∈ lw_all := lw_g (lw_at lw_m3 221 rfl) rfl
theorem q826 : (Jvm.Cond.fieldLink "ElephantLine$Named" (7 : Nat) "ElephantLine$Named" "name" "Ljava/lang/String;") ∈ lw_all := lw_g (lw_at lw_m3 231 rfl) rfl
theorem q831 : (Jvm.Cond.fieldLink "ElephantLine$Named" (13 : Nat) "ElephantLine$Named" "number" "I") ∈ lw_all := lw_g (lw_at lw_m3 236 rfl) rfl
theorem q842 : (Jvm.Cond.soleField "ElephantLine$Named" "name") ∈ lw_all := lw_g (lw_at lw_m4 7 rfl) rfl
theorem q844 : (Jvm.Cond.soleField "ElephantLine$Named" "number") ∈ lw_all := lw_g (lw_at lw_m4 9 rfl) rfl
/-! ElephantLine$Beast -/
set_option maxRecDepth 100000
def RX14 : String := "ElephantLine$Beast"
abbrev cX14_init : ByteArray := prog_2_method_1_code
def yX14_init : MethodName := ⟨RX14, "<init>", "(Ljava/lang/String;I)V"⟩
def dkwX14_init_0 : List UInt8 := [42, 43, 28, 183, 0, 1, 177]
abbrev dktX14_init_0 : List UInt8 := dkwX14_init_0 ++ []
theorem dksX14_init_0 : cX14_init.data.toList.drop 0 = dktX14_init_0 := by decide +kernel
theorem dX14_init_0 : decode cX14_init 0 = .ok (.aload_n 0, 1) := dk_42 (dk_at dksX14_init_0 0 rfl rfl)
theorem dX14_init_1 : decode cX14_init 1 = .ok (.aload_n 1, 1) := dk_43 (dk_at dksX14_init_0 1 rfl rfl)
theorem dX14_init_2 : decode cX14_init 2 = .ok (.iload_n 2, 1) := dk_28 (dk_at dksX14_init_0 2 rfl rfl)
theorem dX14_init_3 : decode cX14_init 3 = .ok (.invokespecial 1, 3) := dk_183 0 1 (dk_at dksX14_init_0 3 rfl rfl)
theorem dX14_init_6 : decode cX14_init 6 = .ok (.return_, 1) := dk_177 (dk_at dksX14_init_0 6 rfl rfl)
abbrev cX14_force : ByteArray := prog_2_method_3_code
def yX14_force : MethodName := ⟨RX14, "force", "()I"⟩
theorem dX14_force_0 : decode cX14_force 0 = .ok (.bipush 20, 2) := by decide +kernel
theorem dX14_force_2 : decode cX14_force 2 = .ok (.ireturn, 1) := by decide +kernel
abbrev cX14_hold : ByteArray := prog_2_method_4_code
def yX14_hold : MethodName := ⟨RX14, "hold", "(Z)I"⟩
theorem dX14_hold_0 : decode cX14_hold 0 = .ok (.aload_n 0, 1) := by decide +kernel
theorem dX14_hold_1 : decode cX14_hold 1 = .ok (.getfield 7, 3) := by decide +kernel
theorem dX14_hold_4 : decode cX14_hold 4 = .ok (.ireturn, 1) := by decide +kernel
abbrev cX14_isFearless : ByteArray := prog_2_method_5_code
def yX14_isFearless : MethodName := ⟨RX14, "isFearless", "()Z"⟩
theorem dX14_isFearless_0 : decode cX14_isFearless 0 = .ok (.iconst 0, 1) := by decide +kernel
theorem dX14_isFearless_1 : decode cX14_isFearless 1 = .ok (.ireturn, 1) := by decide +kernel
theorem q137 : (Jvm.Cond.initialized "ElephantLine$Beast") ∈ lw_all := lw_g (lw_at lw_m1 22 rfl) rfl
theorem q811 : (Jvm.Cond.instanceMethod ({ cls := "ElephantLine$Beast", name := "<init>", desc := "(Ljava/lang/String;I)V" } : Jvm.MethodName)) ∈ lw_all := lw_g (lw_at lw_m3 216 rfl) rfl
theorem q812 : (Jvm.Cond.code ({ cls := "ElephantLine$Beast", name := "<init>", desc := "(Ljava/lang/String;I)V" } : Jvm.MethodName) prog_2_method_1_code (3 : Nat) (Option.none : Option Jvm.ClassFile.FieldType)) ∈ lw_all := lw_g (lw_at lw_m3 217 rfl) rfl
theorem q813 : (Jvm.Cond.methodLink "ElephantLine$Beast" (1 : Nat) ({ cls := "ElephantLine$Named", name := "<init>", desc := "(Ljava/lang/String;I)V" } : Jvm.MethodName)) ∈ lw_all := lw_g (lw_at lw_m3 218 rfl) rfl
theorem q819 : (Jvm.Cond.fieldLink "ElephantLine$Beast" (7 : Nat) "ElephantLine$Beast" "mood" "I") ∈ lw_all := lw_g (lw_at lw_m3 224 rfl) rfl
theorem q828 : (Jvm.Cond.sameField "ElephantLine$Beast" "ElephantLine$Named" "name" "Ljava/lang/String;") ∈ lw_all := lw_g (lw_at lw_m3 233 rfl) rfl
theorem q834 : (Jvm.Cond.soleField "ElephantLine$Beast" "lane") ∈ lw_all := lw_g (lw_at lw_m3 239 rfl) rfl
theorem q836 : (Jvm.Cond.soleField "ElephantLine$Beast" "mood") ∈ lw_all := lw_g (lw_at lw_m4 1 rfl) rfl
theorem q838 : (Jvm.Cond.soleField "ElephantLine$Beast" "price") ∈ lw_all := lw_g (lw_at lw_m4 3 rfl) rfl
theorem q840 : (Jvm.Cond.soleField "ElephantLine$Beast" "turned") ∈ lw_all := lw_g (lw_at lw_m4 5 rfl) rfl
theorem q979 : (Jvm.Cond.declares ({ cls := "ElephantLine$Beast", name := "kind", desc := "()I" } : Jvm.MethodName)) ∈ lw_tbl := lw_at lw_m4 144 rfl
theorem q980 : (Jvm.Cond.sameMethod "ElephantLine$Beast" "ElephantLine$Beast" "kind" "()I") ∈ lw_all := lw_g (lw_at lw_m4 145 rfl) rfl
theorem q999 : (Jvm.Cond.instanceMethod ({ cls := "ElephantLine$Beast", name := "force", desc := "()I" } : Jvm.MethodName)) ∈ lw_all := lw_g (lw_at lw_m4 164 rfl) rfl
theorem q1000 : (Jvm.Cond.sameMethod "ElephantLine$Beast" "ElephantLine$Beast" "force" "()I") ∈ lw_all := lw_g (lw_at lw_m4 165 rfl) rfl
theorem q1008 : (Jvm.Cond.code ({ cls := "ElephantLine$Beast", name := "force", desc := "()I" } : Jvm.MethodName) prog_2_method_3_code (1 : Nat) (Option.some Jvm.ClassFile.FieldType.int)) ∈ lw_all := lw_g (lw_at lw_m4 173 rfl) rfl
theorem q1022 : (Jvm.Cond.instanceMethod ({ cls := "ElephantLine$Beast", name := "hold", desc := "(Z)I" } : Jvm.MethodName)) ∈ lw_all := lw_g (lw_at lw_m4 187 rfl) rfl
theorem q1023 : (Jvm.Cond.sameMethod "ElephantLine$Beast" "ElephantLine$Beast" "hold" "(Z)I") ∈ lw_all := lw_g (lw_at lw_m4 188 rfl) rfl
theorem q1028 : (Jvm.Cond.code ({ cls := "ElephantLine$Beast", name := "hold", desc := "(Z)I" } : Jvm.MethodName) prog_2_method_4_code (2 : Nat) (Option.some Jvm.ClassFile.FieldType.int)) ∈ lw_all := lw_g (lw_at lw_m4 193 rfl) rfl
theorem q1090 : (Jvm.Cond.instanceMethod ({ cls := "ElephantLine$Beast", name := "isFearless", desc := "()Z" } : Jvm.MethodName)) ∈ lw_all := lw_g (lw_at lw_m5 15 rfl) rfl
theorem q1091 : (Jvm.Cond.sameMethod "ElephantLine$Beast" "ElephantLine$Beast" "isFearless" "()Z") ∈ lw_all := lw_g (lw_at lw_m5 16 rfl) rfl
theorem q1098 : (Jvm.Cond.code ({ cls := "ElephantLine$Beast", name := "isFearless", desc := "()Z" } : Jvm.MethodName) prog_2_method_5_code (1 : Nat) (Option.some Jvm.ClassFile.FieldType.boolean)) ∈ lw_all := lw_g (lw_at lw_m5 23 rfl) rfl
/-! ElephantLine$Plain -/
set_option maxRecDepth 100000
def RX15 : String := "ElephantLine$Plain"
def TX15 : u_T := fun k => match k with
  | 0 => ("ElephantLine$Beast", "lane", "I", false)
  | 1 => ("ElephantLine$Beast", "mood", "I", false)
  | 2 => ("ElephantLine$Beast", "price", "I", false)
  | 3 => ("ElephantLine$Beast", "turned", "Z", false)
  | 4 => ("ElephantLine$Named", "name", "Ljava/lang/String;", true)
  | _ => ("ElephantLine$Named", "number", "I", true)
def tyX15 : Nat → FieldType := fun k => match k with
  | 0 => .int
  | 1 => .int
  | 2 => .int
  | 3 => .boolean
  | 4 => .object "java/lang/String"
  | _ => .int
abbrev wsX150 : List Cond := u_ws RX15 TX15 6
theorem nmX15 : ∀ a, a < 6 → ∀ b, b < 6 → a ≠ b → (TX15 a).2.1 ≠ (TX15 b).2.1 := by decide +kernel
theorem tyX15_ok : ∀ k, k < 6 → parseFieldDescriptor (TX15 k).2.2.1 = some (tyX15 k) := by decide +kernel
abbrev cX15_init : ByteArray := prog_14_method_1_code
def yX15_init : MethodName := ⟨RX15, "<init>", "(Ljava/lang/String;I)V"⟩
def dkwX15_init_0 : List UInt8 := [42, 43, 28, 183, 0, 1, 177]
abbrev dktX15_init_0 : List UInt8 := dkwX15_init_0 ++ []
theorem dksX15_init_0 : cX15_init.data.toList.drop 0 = dktX15_init_0 := by decide +kernel
theorem dX15_init_0 : decode cX15_init 0 = .ok (.aload_n 0, 1) := dk_42 (dk_at dksX15_init_0 0 rfl rfl)
theorem dX15_init_1 : decode cX15_init 1 = .ok (.aload_n 1, 1) := dk_43 (dk_at dksX15_init_0 1 rfl rfl)
theorem dX15_init_2 : decode cX15_init 2 = .ok (.iload_n 2, 1) := dk_28 (dk_at dksX15_init_0 2 rfl rfl)
theorem dX15_init_3 : decode cX15_init 3 = .ok (.invokespecial 1, 3) := dk_183 0 1 (dk_at dksX15_init_0 3 rfl rfl)
theorem dX15_init_6 : decode cX15_init 6 = .ok (.return_, 1) := dk_177 (dk_at dksX15_init_0 6 rfl rfl)
abbrev cX15_kind : ByteArray := prog_14_method_2_code
def yX15_kind : MethodName := ⟨RX15, "kind", "()I"⟩
theorem dX15_kind_0 : decode cX15_kind 0 = .ok (.iconst 0, 1) := by decide +kernel
theorem dX15_kind_1 : decode cX15_kind 1 = .ok (.ireturn, 1) := by decide +kernel
theorem q138 : (Jvm.Cond.initialized "ElephantLine$Plain") ∈ lw_all := lw_g (lw_at lw_m1 23 rfl) rfl
theorem q806 : (Jvm.Cond.instantiable "ElephantLine$Plain" (6 : Nat)) ∈ lw_all := lw_g (lw_at lw_m3 211 rfl) rfl
theorem q808 : (Jvm.Cond.instanceMethod ({ cls := "ElephantLine$Plain", name := "<init>", desc := "(Ljava/lang/String;I)V" } : Jvm.MethodName)) ∈ lw_all := lw_g (lw_at lw_m3 213 rfl) rfl
theorem q809 : (Jvm.Cond.code ({ cls := "ElephantLine$Plain", name := "<init>", desc := "(Ljava/lang/String;I)V" } : Jvm.MethodName) prog_14_method_1_code (3 : Nat) (Option.none : Option Jvm.ClassFile.FieldType)) ∈ lw_all := lw_g (lw_at lw_m3 214 rfl) rfl
theorem q810 : (Jvm.Cond.methodLink "ElephantLine$Plain" (1 : Nat) ({ cls := "ElephantLine$Beast", name := "<init>", desc := "(Ljava/lang/String;I)V" } : Jvm.MethodName)) ∈ lw_all := lw_g (lw_at lw_m3 215 rfl) rfl
theorem q833 : (Jvm.Cond.lays "ElephantLine$Plain" "ElephantLine$Beast" "lane" "I") ∈ lw_all := lw_g (lw_at lw_m3 238 rfl) rfl
theorem q835 : (Jvm.Cond.lays "ElephantLine$Plain" "ElephantLine$Beast" "mood" "I") ∈ lw_all := lw_g (lw_at lw_m4 0 rfl) rfl
theorem q837 : (Jvm.Cond.lays "ElephantLine$Plain" "ElephantLine$Beast" "price" "I") ∈ lw_all := lw_g (lw_at lw_m4 2 rfl) rfl
theorem q839 : (Jvm.Cond.lays "ElephantLine$Plain" "ElephantLine$Beast" "turned" "Z") ∈ lw_all := lw_g (lw_at lw_m4 4 rfl) rfl
theorem q841 : (Jvm.Cond.laysFinal "ElephantLine$Plain" "ElephantLine$Named" "name" "Ljava/lang/String;") ∈ lw_all := lw_g (lw_at lw_m4 6 rfl) rfl
theorem q843 : (Jvm.Cond.laysFinal "ElephantLine$Plain" "ElephantLine$Named" "number" "I") ∈ lw_all := lw_g (lw_at lw_m4 8 rfl) rfl
theorem q845 : (Jvm.Cond.superclass "ElephantLine$Plain" "ElephantLine$Beast") ∈ lw_all := lw_g (lw_at lw_m4 10 rfl) rfl
theorem q990 : (Jvm.Cond.selects "ElephantLine$Plain" ({ cls := "ElephantLine$Beast", name := "kind", desc := "()I" } : Jvm.MethodName) ({ cls := "ElephantLine$Plain", name := "kind", desc := "()I" } : Jvm.MethodName)) ∈ lw_all := lw_g (lw_at lw_m4 155 rfl) rfl
theorem q991 : (Jvm.Cond.instanceMethod ({ cls := "ElephantLine$Plain", name := "kind", desc := "()I" } : Jvm.MethodName)) ∈ lw_all := lw_g (lw_at lw_m4 156 rfl) rfl
theorem q992 : (Jvm.Cond.code ({ cls := "ElephantLine$Plain", name := "kind", desc := "()I" } : Jvm.MethodName) prog_14_method_2_code (1 : Nat) (Option.some Jvm.ClassFile.FieldType.int)) ∈ lw_all := lw_g (lw_at lw_m4 157 rfl) rfl
theorem q1013 : (Jvm.Cond.selects "ElephantLine$Plain" ({ cls := "ElephantLine$Beast", name := "force", desc := "()I" } : Jvm.MethodName) ({ cls := "ElephantLine$Beast", name := "force", desc := "()I" } : Jvm.MethodName)) ∈ lw_all := lw_g (lw_at lw_m4 178 rfl) rfl
theorem q1041 : (Jvm.Cond.selects "ElephantLine$Plain" ({ cls := "ElephantLine$Beast", name := "hold", desc := "(Z)I" } : Jvm.MethodName) ({ cls := "ElephantLine$Beast", name := "hold", desc := "(Z)I" } : Jvm.MethodName)) ∈ lw_all := lw_g (lw_at lw_m4 206 rfl) rfl
theorem q1097 : (Jvm.Cond.selects "ElephantLine$Plain" ({ cls := "ElephantLine$Beast", name := "isFearless", desc := "()Z" } : Jvm.MethodName) ({ cls := "ElephantLine$Beast", name := "isFearless", desc := "()Z" } : Jvm.MethodName)) ∈ lw_all := lw_g (lw_at lw_m5 22 rfl) rfl
theorem q2251 : (Jvm.Cond.castable "ElephantLine$Plain" "ElephantLine$Beast") ∈ lw_tbl := lw_at lw_m9 216 rfl
theorem q2266 : (Jvm.Cond.castable "ElephantLine$Plain" "java/lang/Object") ∈ lw_tbl := lw_at lw_m9 231 rfl
theorem in_X15 : ∀ w ∈ wsX150, w ∈ lw_all := lw_in wsX150 [833, 835, 837, 839, 841, 843] (by decide +kernel) (by decide +kernel)
/-! ElephantLine$Calf -/
set_option maxRecDepth 100000
def RX16 : String := "ElephantLine$Calf"
def TX16 : u_T := fun k => match k with
  | 0 => ("ElephantLine$Beast", "lane", "I", false)
  | 1 => ("ElephantLine$Beast", "mood", "I", false)
  | 2 => ("ElephantLine$Beast", "price", "I", false)
  | 3 => ("ElephantLine$Beast", "turned", "Z", false)
  | 4 => ("ElephantLine$Named", "name", "Ljava/lang/String;", true)
  | _ => ("ElephantLine$Named", "number", "I", true)
def tyX16 : Nat → FieldType := fun k => match k with
  | 0 => .int
  | 1 => .int
  | 2 => .int
  | 3 => .boolean
  | 4 => .object "java/lang/String"
  | _ => .int
abbrev wsX160 : List Cond := u_ws RX16 TX16 6
theorem nmX16 : ∀ a, a < 6 → ∀ b, b < 6 → a ≠ b → (TX16 a).2.1 ≠ (TX16 b).2.1 := by decide +kernel
theorem tyX16_ok : ∀ k, k < 6 → parseFieldDescriptor (TX16 k).2.2.1 = some (tyX16 k) := by decide +kernel
abbrev cX16_init : ByteArray := prog_3_method_1_code
def yX16_init : MethodName := ⟨RX16, "<init>", "(Ljava/lang/String;I)V"⟩
def dkwX16_init_0 : List UInt8 := [42, 43, 28, 183, 0, 1, 177]
abbrev dktX16_init_0 : List UInt8 := dkwX16_init_0 ++ []
theorem dksX16_init_0 : cX16_init.data.toList.drop 0 = dktX16_init_0 := by decide +kernel
theorem dX16_init_0 : decode cX16_init 0 = .ok (.aload_n 0, 1) := dk_42 (dk_at dksX16_init_0 0 rfl rfl)
theorem dX16_init_1 : decode cX16_init 1 = .ok (.aload_n 1, 1) := dk_43 (dk_at dksX16_init_0 1 rfl rfl)
theorem dX16_init_2 : decode cX16_init 2 = .ok (.iload_n 2, 1) := dk_28 (dk_at dksX16_init_0 2 rfl rfl)
theorem dX16_init_3 : decode cX16_init 3 = .ok (.invokespecial 1, 3) := dk_183 0 1 (dk_at dksX16_init_0 3 rfl rfl)
theorem dX16_init_6 : decode cX16_init 6 = .ok (.return_, 1) := dk_177 (dk_at dksX16_init_0 6 rfl rfl)
abbrev cX16_kind : ByteArray := prog_3_method_2_code
def yX16_kind : MethodName := ⟨RX16, "kind", "()I"⟩
theorem dX16_kind_0 : decode cX16_kind 0 = .ok (.iconst 1, 1) := by decide +kernel
theorem dX16_kind_1 : decode cX16_kind 1 = .ok (.ireturn, 1) := by decide +kernel
abbrev cX16_force : ByteArray := prog_3_method_3_code
def yX16_force : MethodName := ⟨RX16, "force", "()I"⟩
theorem dX16_force_0 : decode cX16_force 0 = .ok (.iconst 5, 1) := by decide +kernel
theorem dX16_force_1 : decode cX16_force 1 = .ok (.ireturn, 1) := by decide +kernel
abbrev cX16_hold : ByteArray := prog_3_method_4_code
def yX16_hold : MethodName := ⟨RX16, "hold", "(Z)I"⟩
def dkwX16_hold_0 : List UInt8 := [3, 42, 27, 183, 0, 7, 16, 20, 100, 184, 0, 11, 172]
abbrev dktX16_hold_0 : List UInt8 := dkwX16_hold_0 ++ []
theorem dksX16_hold_0 : cX16_hold.data.toList.drop 0 = dktX16_hold_0 := by decide +kernel
theorem dX16_hold_0 : decode cX16_hold 0 = .ok (.iconst 0, 1) := dk_3 (dk_at dksX16_hold_0 0 rfl rfl)
theorem dX16_hold_1 : decode cX16_hold 1 = .ok (.aload_n 0, 1) := dk_42 (dk_at dksX16_hold_0 1 rfl rfl)
theorem dX16_hold_2 : decode cX16_hold 2 = .ok (.iload_n 1, 1) := dk_27 (dk_at dksX16_hold_0 2 rfl rfl)
theorem dX16_hold_3 : decode cX16_hold 3 = .ok (.invokespecial 7, 3) := dk_183 0 7 (dk_at dksX16_hold_0 3 rfl rfl)
theorem dX16_hold_6 : decode cX16_hold 6 = .ok (.bipush 20, 2) := dk_16 20 (dk_at dksX16_hold_0 6 rfl rfl)
theorem dX16_hold_8 : decode cX16_hold 8 = .ok (.isub, 1) := dk_100 (dk_at dksX16_hold_0 8 rfl rfl)
theorem dX16_hold_9 : decode cX16_hold 9 = .ok (.invokestatic 11, 3) := dk_184 0 11 (dk_at dksX16_hold_0 9 rfl rfl)
theorem dX16_hold_12 : decode cX16_hold 12 = .ok (.ireturn, 1) := dk_172 (dk_at dksX16_hold_0 12 rfl rfl)
theorem q139 : (Jvm.Cond.initialized "ElephantLine$Calf") ∈ lw_all := lw_g (lw_at lw_m1 24 rfl) rfl
theorem q848 : (Jvm.Cond.instantiable "ElephantLine$Calf" (6 : Nat)) ∈ lw_all := lw_g (lw_at lw_m4 13 rfl) rfl
theorem q850 : (Jvm.Cond.instanceMethod ({ cls := "ElephantLine$Calf", name := "<init>", desc := "(Ljava/lang/String;I)V" } : Jvm.MethodName)) ∈ lw_all := lw_g (lw_at lw_m4 15 rfl) rfl
theorem q851 : (Jvm.Cond.code ({ cls := "ElephantLine$Calf", name := "<init>", desc := "(Ljava/lang/String;I)V" } : Jvm.MethodName) prog_3_method_1_code (3 : Nat) (Option.none : Option Jvm.ClassFile.FieldType)) ∈ lw_all := lw_g (lw_at lw_m4 16 rfl) rfl
theorem q852 : (Jvm.Cond.methodLink "ElephantLine$Calf" (1 : Nat) ({ cls := "ElephantLine$Beast", name := "<init>", desc := "(Ljava/lang/String;I)V" } : Jvm.MethodName)) ∈ lw_all := lw_g (lw_at lw_m4 17 rfl) rfl
theorem q853 : (Jvm.Cond.lays "ElephantLine$Calf" "ElephantLine$Beast" "lane" "I") ∈ lw_all := lw_g (lw_at lw_m4 18 rfl) rfl
theorem q854 : (Jvm.Cond.lays "ElephantLine$Calf" "ElephantLine$Beast" "mood" "I") ∈ lw_all := lw_g (lw_at lw_m4 19 rfl) rfl
theorem q855 : (Jvm.Cond.lays "ElephantLine$Calf" "ElephantLine$Beast" "price" "I") ∈ lw_all := lw_g (lw_at lw_m4 20 rfl) rfl
theorem q856 : (Jvm.Cond.lays "ElephantLine$Calf" "ElephantLine$Beast" "turned" "Z") ∈ lw_all := lw_g (lw_at lw_m4 21 rfl) rfl
theorem q857 : (Jvm.Cond.laysFinal "ElephantLine$Calf" "ElephantLine$Named" "name" "Ljava/lang/String;") ∈ lw_all := lw_g (lw_at lw_m4 22 rfl) rfl
theorem q858 : (Jvm.Cond.laysFinal "ElephantLine$Calf" "ElephantLine$Named" "number" "I") ∈ lw_all := lw_g (lw_at lw_m4 23 rfl) rfl
theorem q859 : (Jvm.Cond.superclass "ElephantLine$Calf" "ElephantLine$Beast") ∈ lw_all := lw_g (lw_at lw_m4 24 rfl) rfl
theorem q981 : (Jvm.Cond.selects "ElephantLine$Calf" ({ cls := "ElephantLine$Beast", name := "kind", desc := "()I" } : Jvm.MethodName) ({ cls := "ElephantLine$Calf", name := "kind", desc := "()I" } : Jvm.MethodName)) ∈ lw_all := lw_g (lw_at lw_m4 146 rfl) rfl
theorem q982 : (Jvm.Cond.instanceMethod ({ cls := "ElephantLine$Calf", name := "kind", desc := "()I" } : Jvm.MethodName)) ∈ lw_all := lw_g (lw_at lw_m4 147 rfl) rfl
theorem q983 : (Jvm.Cond.code ({ cls := "ElephantLine$Calf", name := "kind", desc := "()I" } : Jvm.MethodName) prog_3_method_2_code (1 : Nat) (Option.some Jvm.ClassFile.FieldType.int)) ∈ lw_all := lw_g (lw_at lw_m4 148 rfl) rfl
theorem q1001 : (Jvm.Cond.selects "ElephantLine$Calf" ({ cls := "ElephantLine$Beast", name := "force", desc := "()I" } : Jvm.MethodName) ({ cls := "ElephantLine$Calf", name := "force", desc := "()I" } : Jvm.MethodName)) ∈ lw_all := lw_g (lw_at lw_m4 166 rfl) rfl
theorem q1002 : (Jvm.Cond.instanceMethod ({ cls := "ElephantLine$Calf", name := "force", desc := "()I" } : Jvm.MethodName)) ∈ lw_all := lw_g (lw_at lw_m4 167 rfl) rfl
theorem q1003 : (Jvm.Cond.code ({ cls := "ElephantLine$Calf", name := "force", desc := "()I" } : Jvm.MethodName) prog_3_method_3_code (1 : Nat) (Option.some Jvm.ClassFile.FieldType.int)) ∈ lw_all := lw_g (lw_at lw_m4 168 rfl) rfl
theorem q1024 : (Jvm.Cond.selects "ElephantLine$Calf" ({ cls := "ElephantLine$Beast", name := "hold", desc := "(Z)I" } : Jvm.MethodName) ({ cls := "ElephantLine$Calf", name := "hold", desc := "(Z)I" } : Jvm.MethodName)) ∈ lw_all := lw_g (lw_at lw_m4 189 rfl) rfl
theorem q1025 : (Jvm.Cond.instanceMethod ({ cls := "ElephantLine$Calf", name := "hold", desc := "(Z)I" } : Jvm.MethodName)) ∈ lw_all := lw_g (lw_at lw_m4 190 rfl) rfl
theorem q1026 : (Jvm.Cond.code ({ cls := "ElephantLine$Calf", name := "hold", desc := "(Z)I" } : Jvm.MethodName) prog_3_method_4_code (2 : Nat) (Option.some Jvm.ClassFile.FieldType.int)) ∈ lw_all := lw_g (lw_at lw_m4 191 rfl) rfl
theorem q1027 : (Jvm.Cond.methodLink "ElephantLine$Calf" (7 : Nat) ({ cls := "ElephantLine$Beast", name := "hold", desc := "(Z)I" } : Jvm.MethodName)) ∈ lw_all := lw_g (lw_at lw_m4 192 rfl) rfl
theorem q1029 : (Jvm.Cond.methodLink "ElephantLine$Calf" (11 : Nat) ({ cls := "java/lang/Math", name := "max", desc := "(II)I" } : Jvm.MethodName)) ∈ lw_all := lw_g (lw_at lw_m4 194 rfl) rfl
theorem q1092 : (Jvm.Cond.selects "ElephantLine$Calf" ({ cls := "ElephantLine$Beast", name := "isFearless", desc := "()Z" } : Jvm.MethodName) ({ cls := "ElephantLine$Beast", name := "isFearless", desc := "()Z" } : Jvm.MethodName)) ∈ lw_all := lw_g (lw_at lw_m5 17 rfl) rfl
theorem q2248 : (Jvm.Cond.castable "ElephantLine$Calf" "ElephantLine$Beast") ∈ lw_tbl := lw_at lw_m9 213 rfl
theorem q2267 : (Jvm.Cond.castable "ElephantLine$Calf" "java/lang/Object") ∈ lw_tbl := lw_at lw_m9 232 rfl
theorem in_X16 : ∀ w ∈ wsX160, w ∈ lw_all := lw_in wsX160 [853, 854, 855, 856, 857, 858] (by decide +kernel) (by decide +kernel)
/-! ElephantLine$Drunk -/
set_option maxRecDepth 100000
def RX17 : String := "ElephantLine$Drunk"
def TX17 : u_T := fun k => match k with
  | 0 => ("ElephantLine$Beast", "lane", "I", false)
  | 1 => ("ElephantLine$Beast", "mood", "I", false)
  | 2 => ("ElephantLine$Beast", "price", "I", false)
  | 3 => ("ElephantLine$Beast", "turned", "Z", false)
  | 4 => ("ElephantLine$Named", "name", "Ljava/lang/String;", true)
  | _ => ("ElephantLine$Named", "number", "I", true)
def tyX17 : Nat → FieldType := fun k => match k with
  | 0 => .int
  | 1 => .int
  | 2 => .int
  | 3 => .boolean
  | 4 => .object "java/lang/String"
  | _ => .int
abbrev wsX170 : List Cond := u_ws RX17 TX17 6
theorem nmX17 : ∀ a, a < 6 → ∀ b, b < 6 → a ≠ b → (TX17 a).2.1 ≠ (TX17 b).2.1 := by decide +kernel
theorem tyX17_ok : ∀ k, k < 6 → parseFieldDescriptor (TX17 k).2.2.1 = some (tyX17 k) := by decide +kernel
abbrev cX17_init : ByteArray := prog_5_method_1_code
def yX17_init : MethodName := ⟨RX17, "<init>", "(Ljava/lang/String;I)V"⟩
def dkwX17_init_0 : List UInt8 := [42, 43, 28, 183, 0, 3, 177]
abbrev dktX17_init_0 : List UInt8 := dkwX17_init_0 ++ []
theorem dksX17_init_0 : cX17_init.data.toList.drop 0 = dktX17_init_0 := by decide +kernel
theorem dX17_init_0 : decode cX17_init 0 = .ok (.aload_n 0, 1) := dk_42 (dk_at dksX17_init_0 0 rfl rfl)
theorem dX17_init_1 : decode cX17_init 1 = .ok (.aload_n 1, 1) := dk_43 (dk_at dksX17_init_0 1 rfl rfl)
theorem dX17_init_2 : decode cX17_init 2 = .ok (.iload_n 2, 1) := dk_28 (dk_at dksX17_init_0 2 rfl rfl)
theorem dX17_init_3 : decode cX17_init 3 = .ok (.invokespecial 3, 3) := dk_183 0 3 (dk_at dksX17_init_0 3 rfl rfl)
theorem dX17_init_6 : decode cX17_init 6 = .ok (.return_, 1) := dk_177 (dk_at dksX17_init_0 6 rfl rfl)
abbrev cX17_kind : ByteArray := prog_5_method_2_code
def yX17_kind : MethodName := ⟨RX17, "kind", "()I"⟩
theorem dX17_kind_0 : decode cX17_kind 0 = .ok (.iconst 2, 1) := by decide +kernel
theorem dX17_kind_1 : decode cX17_kind 1 = .ok (.ireturn, 1) := by decide +kernel
abbrev cX17_force : ByteArray := prog_5_method_3_code
def yX17_force : MethodName := ⟨RX17, "force", "()I"⟩
def dkwX17_force_0 : List UInt8 := [42, 183, 0, 9, 16, 10, 96, 172]
abbrev dktX17_force_0 : List UInt8 := dkwX17_force_0 ++ []
theorem dksX17_force_0 : cX17_force.data.toList.drop 0 = dktX17_force_0 := by decide +kernel
theorem dX17_force_0 : decode cX17_force 0 = .ok (.aload_n 0, 1) := dk_42 (dk_at dksX17_force_0 0 rfl rfl)
theorem dX17_force_1 : decode cX17_force 1 = .ok (.invokespecial 9, 3) := dk_183 0 9 (dk_at dksX17_force_0 1 rfl rfl)
theorem dX17_force_4 : decode cX17_force 4 = .ok (.bipush 10, 2) := dk_16 10 (dk_at dksX17_force_0 4 rfl rfl)
theorem dX17_force_6 : decode cX17_force 6 = .ok (.iadd, 1) := dk_96 (dk_at dksX17_force_0 6 rfl rfl)
theorem dX17_force_7 : decode cX17_force 7 = .ok (.ireturn, 1) := dk_172 (dk_at dksX17_force_0 7 rfl rfl)
abbrev cX17_hold : ByteArray := prog_5_method_4_code
def yX17_hold : MethodName := ⟨RX17, "hold", "(Z)I"⟩
def dkwX17_hold_0 : List UInt8 := [16, 100, 42, 27, 183, 0, 13, 16, 20, 96, 184, 0, 17, 172]
abbrev dktX17_hold_0 : List UInt8 := dkwX17_hold_0 ++ []
theorem dksX17_hold_0 : cX17_hold.data.toList.drop 0 = dktX17_hold_0 := by decide +kernel
theorem dX17_hold_0 : decode cX17_hold 0 = .ok (.bipush 100, 2) := dk_16 100 (dk_at dksX17_hold_0 0 rfl rfl)
theorem dX17_hold_2 : decode cX17_hold 2 = .ok (.aload_n 0, 1) := dk_42 (dk_at dksX17_hold_0 2 rfl rfl)
theorem dX17_hold_3 : decode cX17_hold 3 = .ok (.iload_n 1, 1) := dk_27 (dk_at dksX17_hold_0 3 rfl rfl)
theorem dX17_hold_4 : decode cX17_hold 4 = .ok (.invokespecial 13, 3) := dk_183 0 13 (dk_at dksX17_hold_0 4 rfl rfl)
theorem dX17_hold_7 : decode cX17_hold 7 = .ok (.bipush 20, 2) := dk_16 20 (dk_at dksX17_hold_0 7 rfl rfl)
theorem dX17_hold_9 : decode cX17_hold 9 = .ok (.iadd, 1) := dk_96 (dk_at dksX17_hold_0 9 rfl rfl)
theorem dX17_hold_10 : decode cX17_hold 10 = .ok (.invokestatic 17, 3) := dk_184 0 17 (dk_at dksX17_hold_0 10 rfl rfl)
theorem dX17_hold_13 : decode cX17_hold 13 = .ok (.ireturn, 1) := dk_172 (dk_at dksX17_hold_0 13 rfl rfl)
abbrev cX17_isFearless : ByteArray := prog_5_method_5_code
def yX17_isFearless : MethodName := ⟨RX17, "isFearless", "()Z"⟩
theorem dX17_isFearless_0 : decode cX17_isFearless 0 = .ok (.iconst 1, 1) := by decide +kernel
theorem dX17_isFearless_1 : decode cX17_isFearless 1 = .ok (.ireturn, 1) := by decide +kernel
theorem q140 : (Jvm.Cond.initialized "ElephantLine$Drunk") ∈ lw_all := lw_g (lw_at lw_m1 25 rfl) rfl
theorem q862 : (Jvm.Cond.instantiable "ElephantLine$Drunk" (6 : Nat)) ∈ lw_all := lw_g (lw_at lw_m4 27 rfl) rfl
theorem q864 : (Jvm.Cond.instanceMethod ({ cls := "ElephantLine$Drunk", name := "<init>", desc := "(Ljava/lang/String;I)V" } : Jvm.MethodName)) ∈ lw_all := lw_g (lw_at lw_m4 29 rfl) rfl
theorem q865 : (Jvm.Cond.code ({ cls := "ElephantLine$Drunk", name := "<init>", desc := "(Ljava/lang/String;I)V" } : Jvm.MethodName) prog_5_method_1_code (3 : Nat) (Option.none : Option Jvm.ClassFile.FieldType)) ∈ lw_all := lw_g (lw_at lw_m4 30 rfl) rfl
theorem q866 : (Jvm.Cond.methodLink "ElephantLine$Drunk" (3 : Nat) ({ cls := "ElephantLine$Beast", name := "<init>", desc := "(Ljava/lang/String;I)V" } : Jvm.MethodName)) ∈ lw_all := lw_g (lw_at lw_m4 31 rfl) rfl
theorem q867 : (Jvm.Cond.lays "ElephantLine$Drunk" "ElephantLine$Beast" "lane" "I") ∈ lw_all := lw_g (lw_at lw_m4 32 rfl) rfl
theorem q868 : (Jvm.Cond.lays "ElephantLine$Drunk" "ElephantLine$Beast" "mood" "I") ∈ lw_all := lw_g (lw_at lw_m4 33 rfl) rfl
theorem q869 : (Jvm.Cond.lays "ElephantLine$Drunk" "ElephantLine$Beast" "price" "I") ∈ lw_all := lw_g (lw_at lw_m4 34 rfl) rfl
theorem q870 : (Jvm.Cond.lays "ElephantLine$Drunk" "ElephantLine$Beast" "turned" "Z") ∈ lw_all := lw_g (lw_at lw_m4 35 rfl) rfl
theorem q871 : (Jvm.Cond.laysFinal "ElephantLine$Drunk" "ElephantLine$Named" "name" "Ljava/lang/String;") ∈ lw_all := lw_g (lw_at lw_m4 36 rfl) rfl
theorem q872 : (Jvm.Cond.laysFinal "ElephantLine$Drunk" "ElephantLine$Named" "number" "I") ∈ lw_all := lw_g (lw_at lw_m4 37 rfl) rfl
theorem q873 : (Jvm.Cond.superclass "ElephantLine$Drunk" "ElephantLine$Beast") ∈ lw_all := lw_g (lw_at lw_m4 38 rfl) rfl
theorem q984 : (Jvm.Cond.selects "ElephantLine$Drunk" ({ cls := "ElephantLine$Beast", name := "kind", desc := "()I" } : Jvm.MethodName) ({ cls := "ElephantLine$Drunk", name := "kind", desc := "()I" } : Jvm.MethodName)) ∈ lw_all := lw_g (lw_at lw_m4 149 rfl) rfl
theorem q985 : (Jvm.Cond.instanceMethod ({ cls := "ElephantLine$Drunk", name := "kind", desc := "()I" } : Jvm.MethodName)) ∈ lw_all := lw_g (lw_at lw_m4 150 rfl) rfl
theorem q986 : (Jvm.Cond.code ({ cls := "ElephantLine$Drunk", name := "kind", desc := "()I" } : Jvm.MethodName) prog_5_method_2_code (1 : Nat) (Option.some Jvm.ClassFile.FieldType.int)) ∈ lw_all := lw_g (lw_at lw_m4 151 rfl) rfl
theorem q1004 : (Jvm.Cond.selects "ElephantLine$Drunk" ({ cls := "ElephantLine$Beast", name := "force", desc := "()I" } : Jvm.MethodName) ({ cls := "ElephantLine$Drunk", name := "force", desc := "()I" } : Jvm.MethodName)) ∈ lw_all := lw_g (lw_at lw_m4 169 rfl) rfl
theorem q1005 : (Jvm.Cond.instanceMethod ({ cls := "ElephantLine$Drunk", name := "force", desc := "()I" } : Jvm.MethodName)) ∈ lw_all := lw_g (lw_at lw_m4 170 rfl) rfl
theorem q1006 : (Jvm.Cond.code ({ cls := "ElephantLine$Drunk", name := "force", desc := "()I" } : Jvm.MethodName) prog_5_method_3_code (1 : Nat) (Option.some Jvm.ClassFile.FieldType.int)) ∈ lw_all := lw_g (lw_at lw_m4 171 rfl) rfl
theorem q1007 : (Jvm.Cond.methodLink "ElephantLine$Drunk" (9 : Nat) ({ cls := "ElephantLine$Beast", name := "force", desc := "()I" } : Jvm.MethodName)) ∈ lw_all := lw_g (lw_at lw_m4 172 rfl) rfl
theorem q1030 : (Jvm.Cond.selects "ElephantLine$Drunk" ({ cls := "ElephantLine$Beast", name := "hold", desc := "(Z)I" } : Jvm.MethodName) ({ cls := "ElephantLine$Drunk", name := "hold", desc := "(Z)I" } : Jvm.MethodName)) ∈ lw_all := lw_g (lw_at lw_m4 195 rfl) rfl
theorem q1031 : (Jvm.Cond.instanceMethod ({ cls := "ElephantLine$Drunk", name := "hold", desc := "(Z)I" } : Jvm.MethodName)) ∈ lw_all := lw_g (lw_at lw_m4 196 rfl) rfl
theorem q1032 : (Jvm.Cond.code ({ cls := "ElephantLine$Drunk", name := "hold", desc := "(Z)I" } : Jvm.MethodName) prog_5_method_4_code (2 : Nat) (Option.some Jvm.ClassFile.FieldType.int)) ∈ lw_all := lw_g (lw_at lw_m4 197 rfl) rfl
theorem q1033 : (Jvm.Cond.methodLink "ElephantLine$Drunk" (13 : Nat) ({ cls := "ElephantLine$Beast", name := "hold", desc := "(Z)I" } : Jvm.MethodName)) ∈ lw_all := lw_g (lw_at lw_m4 198 rfl) rfl
theorem q1034 : (Jvm.Cond.methodLink "ElephantLine$Drunk" (17 : Nat) ({ cls := "java/lang/Math", name := "min", desc := "(II)I" } : Jvm.MethodName)) ∈ lw_all := lw_g (lw_at lw_m4 199 rfl) rfl
theorem q1093 : (Jvm.Cond.selects "ElephantLine$Drunk" ({ cls := "ElephantLine$Beast", name := "isFearless", desc := "()Z" } : Jvm.MethodName) ({ cls := "ElephantLine$Drunk", name := "isFearless", desc := "()Z" } : Jvm.MethodName)) ∈ lw_all := lw_g (lw_at lw_m5 18 rfl) rfl
theorem q1094 : (Jvm.Cond.instanceMethod ({ cls := "ElephantLine$Drunk", name := "isFearless", desc := "()Z" } : Jvm.MethodName)) ∈ lw_all := lw_g (lw_at lw_m5 19 rfl) rfl
theorem q1095 : (Jvm.Cond.code ({ cls := "ElephantLine$Drunk", name := "isFearless", desc := "()Z" } : Jvm.MethodName) prog_5_method_5_code (1 : Nat) (Option.some Jvm.ClassFile.FieldType.boolean)) ∈ lw_all := lw_g (lw_at lw_m5 20 rfl) rfl
theorem q2249 : (Jvm.Cond.castable "ElephantLine$Drunk" "ElephantLine$Beast") ∈ lw_tbl := lw_at lw_m9 214 rfl
theorem q2268 : (Jvm.Cond.castable "ElephantLine$Drunk" "java/lang/Object") ∈ lw_tbl := lw_at lw_m9 233 rfl
theorem in_X17 : ∀ w ∈ wsX170, w ∈ lw_all := lw_in wsX170 [867, 868, 869, 870, 871, 872] (by decide +kernel) (by decide +kernel)
/-! ElephantLine$Mailed -/
set_option maxRecDepth 100000
def RX18 : String := "ElephantLine$Mailed"
def TX18 : u_T := fun k => match k with
  | 0 => ("ElephantLine$Beast", "lane", "I", false)
  | 1 => ("ElephantLine$Beast", "mood", "I", false)
  | 2 => ("ElephantLine$Beast", "price", "I", false)
  | 3 => ("ElephantLine$Beast", "turned", "Z", false)
  | 4 => ("ElephantLine$Named", "name", "Ljava/lang/String;", true)
  | _ => ("ElephantLine$Named", "number", "I", true)
def tyX18 : Nat → FieldType := fun k => match k with
  | 0 => .int
  | 1 => .int
  | 2 => .int
  | 3 => .boolean
  | 4 => .object "java/lang/String"
  | _ => .int
abbrev wsX180 : List Cond := u_ws RX18 TX18 6
theorem nmX18 : ∀ a, a < 6 → ∀ b, b < 6 → a ≠ b → (TX18 a).2.1 ≠ (TX18 b).2.1 := by decide +kernel
theorem tyX18_ok : ∀ k, k < 6 → parseFieldDescriptor (TX18 k).2.2.1 = some (tyX18 k) := by decide +kernel
abbrev cX18_init : ByteArray := prog_9_method_1_code
def yX18_init : MethodName := ⟨RX18, "<init>", "(Ljava/lang/String;I)V"⟩
def dkwX18_init_0 : List UInt8 := [42, 43, 28, 183, 0, 1, 177]
abbrev dktX18_init_0 : List UInt8 := dkwX18_init_0 ++ []
theorem dksX18_init_0 : cX18_init.data.toList.drop 0 = dktX18_init_0 := by decide +kernel
theorem dX18_init_0 : decode cX18_init 0 = .ok (.aload_n 0, 1) := dk_42 (dk_at dksX18_init_0 0 rfl rfl)
theorem dX18_init_1 : decode cX18_init 1 = .ok (.aload_n 1, 1) := dk_43 (dk_at dksX18_init_0 1 rfl rfl)
theorem dX18_init_2 : decode cX18_init 2 = .ok (.iload_n 2, 1) := dk_28 (dk_at dksX18_init_0 2 rfl rfl)
theorem dX18_init_3 : decode cX18_init 3 = .ok (.invokespecial 1, 3) := dk_183 0 1 (dk_at dksX18_init_0 3 rfl rfl)
theorem dX18_init_6 : decode cX18_init 6 = .ok (.return_, 1) := dk_177 (dk_at dksX18_init_0 6 rfl rfl)
abbrev cX18_kind : ByteArray := prog_9_method_2_code
def yX18_kind : MethodName := ⟨RX18, "kind", "()I"⟩
theorem dX18_kind_0 : decode cX18_kind 0 = .ok (.iconst 3, 1) := by decide +kernel
theorem dX18_kind_1 : decode cX18_kind 1 = .ok (.ireturn, 1) := by decide +kernel
abbrev cX18_force : ByteArray := prog_9_method_3_code
def yX18_force : MethodName := ⟨RX18, "force", "()I"⟩
def dkwX18_force_0 : List UInt8 := [42, 183, 0, 7, 8, 96, 172]
abbrev dktX18_force_0 : List UInt8 := dkwX18_force_0 ++ []
theorem dksX18_force_0 : cX18_force.data.toList.drop 0 = dktX18_force_0 := by decide +kernel
theorem dX18_force_0 : decode cX18_force 0 = .ok (.aload_n 0, 1) := dk_42 (dk_at dksX18_force_0 0 rfl rfl)
theorem dX18_force_1 : decode cX18_force 1 = .ok (.invokespecial 7, 3) := dk_183 0 7 (dk_at dksX18_force_0 1 rfl rfl)
theorem dX18_force_4 : decode cX18_force 4 = .ok (.iconst 5, 1) := dk_8 (dk_at dksX18_force_0 4 rfl rfl)
theorem dX18_force_5 : decode cX18_force 5 = .ok (.iadd, 1) := dk_96 (dk_at dksX18_force_0 5 rfl rfl)
theorem dX18_force_6 : decode cX18_force 6 = .ok (.ireturn, 1) := dk_172 (dk_at dksX18_force_0 6 rfl rfl)
abbrev cX18_hold : ByteArray := prog_9_method_4_code
def yX18_hold : MethodName := ⟨RX18, "hold", "(Z)I"⟩
def dkwX18_hold_0 : List UInt8 := [27, 153, 0, 13, 42, 27, 183, 0, 11, 5, 108, 167, 0, 8, 42, 27, 183, 0, 11, 172]
abbrev dktX18_hold_0 : List UInt8 := dkwX18_hold_0 ++ []
theorem dksX18_hold_0 : cX18_hold.data.toList.drop 0 = dktX18_hold_0 := by decide +kernel
theorem dX18_hold_0 : decode cX18_hold 0 = .ok (.iload_n 1, 1) := dk_27 (dk_at dksX18_hold_0 0 rfl rfl)
theorem dX18_hold_1 : decode cX18_hold 1 = .ok (.ifCond .eq 13, 3) := dk_153 0 13 (dk_at dksX18_hold_0 1 rfl rfl)
theorem dX18_hold_4 : decode cX18_hold 4 = .ok (.aload_n 0, 1) := dk_42 (dk_at dksX18_hold_0 4 rfl rfl)
theorem dX18_hold_5 : decode cX18_hold 5 = .ok (.iload_n 1, 1) := dk_27 (dk_at dksX18_hold_0 5 rfl rfl)
theorem dX18_hold_6 : decode cX18_hold 6 = .ok (.invokespecial 11, 3) := dk_183 0 11 (dk_at dksX18_hold_0 6 rfl rfl)
theorem dX18_hold_9 : decode cX18_hold 9 = .ok (.iconst 2, 1) := dk_5 (dk_at dksX18_hold_0 9 rfl rfl)
theorem dX18_hold_10 : decode cX18_hold 10 = .ok (.idiv, 1) := dk_108 (dk_at dksX18_hold_0 10 rfl rfl)
theorem dX18_hold_11 : decode cX18_hold 11 = .ok (.goto 8, 3) := dk_167 0 8 (dk_at dksX18_hold_0 11 rfl rfl)
theorem dX18_hold_14 : decode cX18_hold 14 = .ok (.aload_n 0, 1) := dk_42 (dk_at dksX18_hold_0 14 rfl rfl)
theorem dX18_hold_15 : decode cX18_hold 15 = .ok (.iload_n 1, 1) := dk_27 (dk_at dksX18_hold_0 15 rfl rfl)
theorem dX18_hold_16 : decode cX18_hold 16 = .ok (.invokespecial 11, 3) := dk_183 0 11 (dk_at dksX18_hold_0 16 rfl rfl)
theorem dX18_hold_19 : decode cX18_hold 19 = .ok (.ireturn, 1) := dk_172 (dk_at dksX18_hold_0 19 rfl rfl)
theorem q141 : (Jvm.Cond.initialized "ElephantLine$Mailed") ∈ lw_all := lw_g (lw_at lw_m1 26 rfl) rfl
theorem q876 : (Jvm.Cond.instantiable "ElephantLine$Mailed" (6 : Nat)) ∈ lw_all := lw_g (lw_at lw_m4 41 rfl) rfl
theorem q878 : (Jvm.Cond.instanceMethod ({ cls := "ElephantLine$Mailed", name := "<init>", desc := "(Ljava/lang/String;I)V" } : Jvm.MethodName)) ∈ lw_all := lw_g (lw_at lw_m4 43 rfl) rfl
theorem q879 : (Jvm.Cond.code ({ cls := "ElephantLine$Mailed", name := "<init>", desc := "(Ljava/lang/String;I)V" } : Jvm.MethodName) prog_9_method_1_code (3 : Nat) (Option.none : Option Jvm.ClassFile.FieldType)) ∈ lw_all := lw_g (lw_at lw_m4 44 rfl) rfl
theorem q880 : (Jvm.Cond.methodLink "ElephantLine$Mailed" (1 : Nat) ({ cls := "ElephantLine$Beast", name := "<init>", desc := "(Ljava/lang/String;I)V" } : Jvm.MethodName)) ∈ lw_all := lw_g (lw_at lw_m4 45 rfl) rfl
theorem q881 : (Jvm.Cond.lays "ElephantLine$Mailed" "ElephantLine$Beast" "lane" "I") ∈ lw_all := lw_g (lw_at lw_m4 46 rfl) rfl
theorem q882 : (Jvm.Cond.lays "ElephantLine$Mailed" "ElephantLine$Beast" "mood" "I") ∈ lw_all := lw_g (lw_at lw_m4 47 rfl) rfl
theorem q883 : (Jvm.Cond.lays "ElephantLine$Mailed" "ElephantLine$Beast" "price" "I") ∈ lw_all := lw_g (lw_at lw_m4 48 rfl) rfl
theorem q884 : (Jvm.Cond.lays "ElephantLine$Mailed" "ElephantLine$Beast" "turned" "Z") ∈ lw_all := lw_g (lw_at lw_m4 49 rfl) rfl
theorem q885 : (Jvm.Cond.laysFinal "ElephantLine$Mailed" "ElephantLine$Named" "name" "Ljava/lang/String;") ∈ lw_all := lw_g (lw_at lw_m4 50 rfl) rfl
theorem q886 : (Jvm.Cond.laysFinal "ElephantLine$Mailed" "ElephantLine$Named" "number" "I") ∈ lw_all := lw_g (lw_at lw_m4 51 rfl) rfl
theorem q887 : (Jvm.Cond.superclass "ElephantLine$Mailed" "ElephantLine$Beast") ∈ lw_all := lw_g (lw_at lw_m4 52 rfl) rfl
theorem q987 : (Jvm.Cond.selects "ElephantLine$Mailed" ({ cls := "ElephantLine$Beast", name := "kind", desc := "()I" } : Jvm.MethodName) ({ cls := "ElephantLine$Mailed", name := "kind", desc := "()I" } : Jvm.MethodName)) ∈ lw_all := lw_g (lw_at lw_m4 152 rfl) rfl
theorem q988 : (Jvm.Cond.instanceMethod ({ cls := "ElephantLine$Mailed", name := "kind", desc := "()I" } : Jvm.MethodName)) ∈ lw_all := lw_g (lw_at lw_m4 153 rfl) rfl
theorem q989 : (Jvm.Cond.code ({ cls := "ElephantLine$Mailed", name := "kind", desc := "()I" } : Jvm.MethodName) prog_9_method_2_code (1 : Nat) (Option.some Jvm.ClassFile.FieldType.int)) ∈ lw_all := lw_g (lw_at lw_m4 154 rfl) rfl
theorem q1009 : (Jvm.Cond.selects "ElephantLine$Mailed" ({ cls := "ElephantLine$Beast", name := "force", desc := "()I" } : Jvm.MethodName) ({ cls := "ElephantLine$Mailed", name := "force", desc := "()I" } : Jvm.MethodName)) ∈ lw_all := lw_g (lw_at lw_m4 174 rfl) rfl
theorem q1010 : (Jvm.Cond.instanceMethod ({ cls := "ElephantLine$Mailed", name := "force", desc := "()I" } : Jvm.MethodName)) ∈ lw_all := lw_g (lw_at lw_m4 175 rfl) rfl
theorem q1011 : (Jvm.Cond.code ({ cls := "ElephantLine$Mailed", name := "force", desc := "()I" } : Jvm.MethodName) prog_9_method_3_code (1 : Nat) (Option.some Jvm.ClassFile.FieldType.int)) ∈ lw_all := lw_g (lw_at lw_m4 176 rfl) rfl
theorem q1012 : (Jvm.Cond.methodLink "ElephantLine$Mailed" (7 : Nat) ({ cls := "ElephantLine$Beast", name := "force", desc := "()I" } : Jvm.MethodName)) ∈ lw_all := lw_g (lw_at lw_m4 177 rfl) rfl
theorem q1037 : (Jvm.Cond.selects "ElephantLine$Mailed" ({ cls := "ElephantLine$Beast", name := "hold", desc := "(Z)I" } : Jvm.MethodName) ({ cls := "ElephantLine$Mailed", name := "hold", desc := "(Z)I" } : Jvm.MethodName)) ∈ lw_all := lw_g (lw_at lw_m4 202 rfl) rfl
theorem q1038 : (Jvm.Cond.instanceMethod ({ cls := "ElephantLine$Mailed", name := "hold", desc := "(Z)I" } : Jvm.MethodName)) ∈ lw_all := lw_g (lw_at lw_m4 203 rfl) rfl
theorem q1039 : (Jvm.Cond.code ({ cls := "ElephantLine$Mailed", name := "hold", desc := "(Z)I" } : Jvm.MethodName) prog_9_method_4_code (2 : Nat) (Option.some Jvm.ClassFile.FieldType.int)) ∈ lw_all := lw_g (lw_at lw_m4 204 rfl) rfl
theorem q1040 : (Jvm.Cond.methodLink "ElephantLine$Mailed" (11 : Nat) ({ cls := "ElephantLine$Beast", name := "hold", desc := "(Z)I" } : Jvm.MethodName)) ∈ lw_all := lw_g (lw_at lw_m4 205 rfl) rfl
theorem q1096 : (Jvm.Cond.selects "ElephantLine$Mailed" ({ cls := "ElephantLine$Beast", name := "isFearless", desc := "()Z" } : Jvm.MethodName) ({ cls := "ElephantLine$Beast", name := "isFearless", desc := "()Z" } : Jvm.MethodName)) ∈ lw_all := lw_g (lw_at lw_m5 21 rfl) rfl
theorem q2250 : (Jvm.Cond.castable "ElephantLine$Mailed" "ElephantLine$Beast") ∈ lw_tbl := lw_at lw_m9 215 rfl
theorem q2269 : (Jvm.Cond.castable "ElephantLine$Mailed" "java/lang/Object") ∈ lw_tbl := lw_at lw_m9 234 rfl
theorem in_X18 : ∀ w ∈ wsX180, w ∈ lw_all := lw_in wsX180 [881, 882, 883, 884, 885, 886] (by decide +kernel) (by decide +kernel)
/-! ElephantLine$City -/
set_option maxRecDepth 100000
def RX19 : String := "ElephantLine$City"
def TX19 : u_T := fun k => match k with
  | 0 => ("ElephantLine$Named", "name", "Ljava/lang/String;", true)
  | _ => ("ElephantLine$Named", "number", "I", true)
def tyX19 : Nat → FieldType := fun k => match k with
  | 0 => .object "java/lang/String"
  | _ => .int
abbrev wsX190 : List Cond := u_ws RX19 TX19 2
theorem nmX19 : ∀ a, a < 2 → ∀ b, b < 2 → a ≠ b → (TX19 a).2.1 ≠ (TX19 b).2.1 := by decide +kernel
theorem tyX19_ok : ∀ k, k < 2 → parseFieldDescriptor (TX19 k).2.2.1 = some (tyX19 k) := by decide +kernel
abbrev cX19_init : ByteArray := prog_4_method_1_code
def yX19_init : MethodName := ⟨RX19, "<init>", "(Ljava/lang/String;I)V"⟩
def dkwX19_init_0 : List UInt8 := [42, 43, 28, 183, 0, 1, 177]
abbrev dktX19_init_0 : List UInt8 := dkwX19_init_0 ++ []
theorem dksX19_init_0 : cX19_init.data.toList.drop 0 = dktX19_init_0 := by decide +kernel
theorem dX19_init_0 : decode cX19_init 0 = .ok (.aload_n 0, 1) := dk_42 (dk_at dksX19_init_0 0 rfl rfl)
theorem dX19_init_1 : decode cX19_init 1 = .ok (.aload_n 1, 1) := dk_43 (dk_at dksX19_init_0 1 rfl rfl)
theorem dX19_init_2 : decode cX19_init 2 = .ok (.iload_n 2, 1) := dk_28 (dk_at dksX19_init_0 2 rfl rfl)
theorem dX19_init_3 : decode cX19_init 3 = .ok (.invokespecial 1, 3) := dk_183 0 1 (dk_at dksX19_init_0 3 rfl rfl)
theorem dX19_init_6 : decode cX19_init 6 = .ok (.return_, 1) := dk_177 (dk_at dksX19_init_0 6 rfl rfl)
theorem q142 : (Jvm.Cond.initialized "ElephantLine$City") ∈ lw_all := lw_g (lw_at lw_m1 27 rfl) rfl
theorem q830 : (Jvm.Cond.sameField "ElephantLine$City" "ElephantLine$Named" "name" "Ljava/lang/String;") ∈ lw_all := lw_g (lw_at lw_m3 235 rfl) rfl
theorem q896 : (Jvm.Cond.instantiable "ElephantLine$City" (2 : Nat)) ∈ lw_all := lw_g (lw_at lw_m4 61 rfl) rfl
theorem q898 : (Jvm.Cond.instanceMethod ({ cls := "ElephantLine$City", name := "<init>", desc := "(Ljava/lang/String;I)V" } : Jvm.MethodName)) ∈ lw_all := lw_g (lw_at lw_m4 63 rfl) rfl
theorem q899 : (Jvm.Cond.code ({ cls := "ElephantLine$City", name := "<init>", desc := "(Ljava/lang/String;I)V" } : Jvm.MethodName) prog_4_method_1_code (3 : Nat) (Option.none : Option Jvm.ClassFile.FieldType)) ∈ lw_all := lw_g (lw_at lw_m4 64 rfl) rfl
theorem q900 : (Jvm.Cond.methodLink "ElephantLine$City" (1 : Nat) ({ cls := "ElephantLine$Named", name := "<init>", desc := "(Ljava/lang/String;I)V" } : Jvm.MethodName)) ∈ lw_all := lw_g (lw_at lw_m4 65 rfl) rfl
theorem q901 : (Jvm.Cond.laysFinal "ElephantLine$City" "ElephantLine$Named" "name" "Ljava/lang/String;") ∈ lw_all := lw_g (lw_at lw_m4 66 rfl) rfl
theorem q902 : (Jvm.Cond.laysFinal "ElephantLine$City" "ElephantLine$Named" "number" "I") ∈ lw_all := lw_g (lw_at lw_m4 67 rfl) rfl
theorem q903 : (Jvm.Cond.superclass "ElephantLine$City" "ElephantLine$Named") ∈ lw_all := lw_g (lw_at lw_m4 68 rfl) rfl
theorem q2270 : (Jvm.Cond.castable "ElephantLine$City" "java/lang/Object") ∈ lw_tbl := lw_at lw_m9 235 rfl
theorem in_X19 : ∀ w ∈ wsX190, w ∈ lw_all := lw_in wsX190 [901, 902] (by decide +kernel) (by decide +kernel)
/-! ElephantLineModel$War -/
set_option maxRecDepth 100000
def RX20 : String := "ElephantLineModel$War"
def TX20 : u_T := fun k => match k with
  | 0 => ("ElephantLineModel$War", "lanes", "I", false)
  | 1 => ("ElephantLineModel$War", "deep", "I", false)
  | 2 => ("ElephantLineModel$War", "told", "I", false)
  | 3 => ("ElephantLineModel$War", "beasts", "I", false)
  | 4 => ("ElephantLineModel$War", "cities", "I", false)
  | 5 => ("ElephantLineModel$War", "passes", "I", false)
  | 6 => ("ElephantLineModel$War", "turned", "I", false)
  | 7 => ("ElephantLineModel$War", "names", "I", false)
  | 8 => ("ElephantLineModel$War", "who", "[I", true)
  | 9 => ("ElephantLineModel$War", "strong", "[I", true)
  | 10 => ("ElephantLineModel$War", "kind", "[I", true)
  | 11 => ("ElephantLineModel$War", "lane", "[I", true)
  | 12 => ("ElephantLineModel$War", "mood", "[I", true)
  | 13 => ("ElephantLineModel$War", "price", "[I", true)
  | 14 => ("ElephantLineModel$War", "loses", "[I", true)
  | 15 => ("ElephantLineModel$War", "name", "[J", true)
  | 16 => ("ElephantLineModel$War", "nameSort", "[I", true)
  | _ => ("ElephantLineModel$War", "numberOf", "[I", true)
def tyX20 : Nat → FieldType := fun k => match k with
  | 0 => .int
  | 1 => .int
  | 2 => .int
  | 3 => .int
  | 4 => .int
  | 5 => .int
  | 6 => .int
  | 7 => .int
  | 8 => .array .int
  | 9 => .array .int
  | 10 => .array .int
  | 11 => .array .int
  | 12 => .array .int
  | 13 => .array .int
  | 14 => .array .int
  | 15 => .array .long
  | 16 => .array .int
  | _ => .array .int
abbrev wsX200 : List Cond := u_ws RX20 TX20 18
set_option maxRecDepth 100000 in
theorem nmX20 : ∀ a, a < 18 → ∀ b, b < 18 → a ≠ b → (TX20 a).2.1 ≠ (TX20 b).2.1 := by decide +kernel
set_option maxRecDepth 100000 in
theorem tyX20_ok : ∀ k, k < 18 → parseFieldDescriptor (TX20 k).2.2.1 = some (tyX20 k) := by decide +kernel
abbrev cX20_init : ByteArray := prog_21_method_1_code
def yX20_init : MethodName := ⟨RX20, "<init>", "()V"⟩
def dkwX20_init_3 : List UInt8 := [42, 16, 11, 188, 10, 181, 0, 40, 177]
abbrev dktX20_init_3 : List UInt8 := dkwX20_init_3 ++ []
def dkwX20_init_2 : List UInt8 := [42, 16, 36, 188, 10, 181, 0, 30, 42, 16, 11, 188, 11, 181, 0, 33, 42, 16, 11, 188, 10, 181, 0, 37]
abbrev dktX20_init_2 : List UInt8 := dkwX20_init_2 ++ dktX20_init_3
def dkwX20_init_1 : List UInt8 := [181, 0, 18, 42, 8, 188, 10, 181, 0, 21, 42, 8, 188, 10, 181, 0, 24, 42, 8, 188, 10, 181, 0, 27]
abbrev dktX20_init_1 : List UInt8 := dkwX20_init_1 ++ dktX20_init_2
def dkwX20_init_0 : List UInt8 := [42, 183, 0, 3, 42, 16, 6, 188, 10, 181, 0, 9, 42, 16, 6, 188, 10, 181, 0, 15, 42, 8, 188, 10]
abbrev dktX20_init_0 : List UInt8 := dkwX20_init_0 ++ dktX20_init_1
theorem dksX20_init_0 : cX20_init.data.toList.drop 0 = dktX20_init_0 := by decide +kernel
theorem dksX20_init_1 : cX20_init.data.toList.drop 24 = dktX20_init_1 := dk_seg dksX20_init_0 24 rfl rfl
theorem dksX20_init_2 : cX20_init.data.toList.drop 48 = dktX20_init_2 := dk_seg dksX20_init_1 24 rfl rfl
theorem dksX20_init_3 : cX20_init.data.toList.drop 72 = dktX20_init_3 := dk_seg dksX20_init_2 24 rfl rfl
theorem dX20_init_0 : decode cX20_init 0 = .ok (.aload_n 0, 1) := dk_42 (dk_at dksX20_init_0 0 rfl rfl)
theorem dX20_init_1 : decode cX20_init 1 = .ok (.invokespecial 3, 3) := dk_183 0 3 (dk_at dksX20_init_0 1 rfl rfl)
theorem dX20_init_4 : decode cX20_init 4 = .ok (.aload_n 0, 1) := dk_42 (dk_at dksX20_init_0 4 rfl rfl)
theorem dX20_init_5 : decode cX20_init 5 = .ok (.bipush 6, 2) := dk_16 6 (dk_at dksX20_init_0 5 rfl rfl)
theorem dX20_init_7 : decode cX20_init 7 = .ok (.newarray .int, 2) := dk_188_10 (dk_at dksX20_init_0 7 rfl rfl)
theorem dX20_init_9 : decode cX20_init 9 = .ok (.putfield 9, 3) := dk_181 0 9 (dk_at dksX20_init_0 9 rfl rfl)
theorem dX20_init_12 : decode cX20_init 12 = .ok (.aload_n 0, 1) := dk_42 (dk_at dksX20_init_0 12 rfl rfl)
theorem dX20_init_13 : decode cX20_init 13 = .ok (.bipush 6, 2) := dk_16 6 (dk_at dksX20_init_0 13 rfl rfl)
theorem dX20_init_15 : decode cX20_init 15 = .ok (.newarray .int, 2) := dk_188_10 (dk_at dksX20_init_0 15 rfl rfl)
theorem dX20_init_17 : decode cX20_init 17 = .ok (.putfield 15, 3) := dk_181 0 15 (dk_at dksX20_init_0 17 rfl rfl)
theorem dX20_init_20 : decode cX20_init 20 = .ok (.aload_n 0, 1) := dk_42 (dk_at dksX20_init_0 20 rfl rfl)
theorem dX20_init_21 : decode cX20_init 21 = .ok (.iconst 5, 1) := dk_8 (dk_at dksX20_init_0 21 rfl rfl)
theorem dX20_init_22 : decode cX20_init 22 = .ok (.newarray .int, 2) := dk_188_10 (dk_at dksX20_init_0 22 rfl rfl)
theorem dX20_init_24 : decode cX20_init 24 = .ok (.putfield 18, 3) := dk_181 0 18 (dk_at dksX20_init_1 0 rfl rfl)
theorem dX20_init_27 : decode cX20_init 27 = .ok (.aload_n 0, 1) := dk_42 (dk_at dksX20_init_1 3 rfl rfl)
theorem dX20_init_28 : decode cX20_init 28 = .ok (.iconst 5, 1) := dk_8 (dk_at dksX20_init_1 4 rfl rfl)
theorem dX20_init_29 : decode cX20_init 29 = .ok (.newarray .int, 2) := dk_188_10 (dk_at dksX20_init_1 5 rfl rfl)
theorem dX20_init_31 : decode cX20_init 31 = .ok (.putfield 21, 3) := dk_181 0 21 (dk_at dksX20_init_1 7 rfl rfl)
theorem dX20_init_34 : decode cX20_init 34 = .ok (.aload_n 0, 1) := dk_42 (dk_at dksX20_init_1 10 rfl rfl)
theorem dX20_init_35 : decode cX20_init 35 = .ok (.iconst 5, 1) := dk_8 (dk_at dksX20_init_1 11 rfl rfl)
theorem dX20_init_36 : decode cX20_init 36 = .ok (.newarray .int, 2) := dk_188_10 (dk_at dksX20_init_1 12 rfl rfl)
theorem dX20_init_38 : decode cX20_init 38 = .ok (.putfield 24, 3) := dk_181 0 24 (dk_at dksX20_init_1 14 rfl rfl)
theorem dX20_init_41 : decode cX20_init 41 = .ok (.aload_n 0, 1) := dk_42 (dk_at dksX20_init_1 17 rfl rfl)
theorem dX20_init_42 : decode cX20_init 42 = .ok (.iconst 5, 1) := dk_8 (dk_at dksX20_init_1 18 rfl rfl)
theorem dX20_init_43 : decode cX20_init 43 = .ok (.newarray .int, 2) := dk_188_10 (dk_at dksX20_init_1 19 rfl rfl)
theorem dX20_init_45 : decode cX20_init 45 = .ok (.putfield 27, 3) := dk_181 0 27 (dk_at dksX20_init_1 21 rfl rfl)
theorem dX20_init_48 : decode cX20_init 48 = .ok (.aload_n 0, 1) := dk_42 (dk_at dksX20_init_2 0 rfl rfl)
theorem dX20_init_49 : decode cX20_init 49 = .ok (.bipush 36, 2) := dk_16 36 (dk_at dksX20_init_2 1 rfl rfl)
theorem dX20_init_51 : decode cX20_init 51 = .ok (.newarray .int, 2) := dk_188_10 (dk_at dksX20_init_2 3 rfl rfl)
theorem dX20_init_53 : decode cX20_init 53 = .ok (.putfield 30, 3) := dk_181 0 30 (dk_at dksX20_init_2 5 rfl rfl)
theorem dX20_init_56 : decode cX20_init 56 = .ok (.aload_n 0, 1) := dk_42 (dk_at dksX20_init_2 8 rfl rfl)
theorem dX20_init_57 : decode cX20_init 57 = .ok (.bipush 11, 2) := dk_16 11 (dk_at dksX20_init_2 9 rfl rfl)
theorem dX20_init_59 : decode cX20_init 59 = .ok (.newarray .long, 2) := dk_188_11 (dk_at dksX20_init_2 11 rfl rfl)
theorem dX20_init_61 : decode cX20_init 61 = .ok (.putfield 33, 3) := dk_181 0 33 (dk_at dksX20_init_2 13 rfl rfl)
theorem dX20_init_64 : decode cX20_init 64 = .ok (.aload_n 0, 1) := dk_42 (dk_at dksX20_init_2 16 rfl rfl)
theorem dX20_init_65 : decode cX20_init 65 = .ok (.bipush 11, 2) := dk_16 11 (dk_at dksX20_init_2 17 rfl rfl)
theorem dX20_init_67 : decode cX20_init 67 = .ok (.newarray .int, 2) := dk_188_10 (dk_at dksX20_init_2 19 rfl rfl)
theorem dX20_init_69 : decode cX20_init 69 = .ok (.putfield 37, 3) := dk_181 0 37 (dk_at dksX20_init_2 21 rfl rfl)
theorem dX20_init_72 : decode cX20_init 72 = .ok (.aload_n 0, 1) := dk_42 (dk_at dksX20_init_3 0 rfl rfl)
theorem dX20_init_73 : decode cX20_init 73 = .ok (.bipush 11, 2) := dk_16 11 (dk_at dksX20_init_3 1 rfl rfl)
theorem dX20_init_75 : decode cX20_init 75 = .ok (.newarray .int, 2) := dk_188_10 (dk_at dksX20_init_3 3 rfl rfl)
theorem dX20_init_77 : decode cX20_init 77 = .ok (.putfield 40, 3) := dk_181 0 40 (dk_at dksX20_init_3 5 rfl rfl)
theorem dX20_init_80 : decode cX20_init 80 = .ok (.return_, 1) := dk_177 (dk_at dksX20_init_3 8 rfl rfl)
abbrev cX20_find : ByteArray := prog_21_method_2_code
def yX20_find : MethodName := ⟨RX20, "find", "(J)I"⟩
def dkwX20_find_1 : List UInt8 := [132, 3, 1, 167, 255, 232, 2, 172]
abbrev dktX20_find_1 : List UInt8 := dkwX20_find_1 ++ []
def dkwX20_find_0 : List UInt8 := [3, 62, 29, 42, 180, 0, 43, 162, 0, 22, 42, 180, 0, 33, 29, 47, 31, 148, 154, 0, 5, 29, 172]
abbrev dktX20_find_0 : List UInt8 := dkwX20_find_0 ++ dktX20_find_1
theorem dksX20_find_0 : cX20_find.data.toList.drop 0 = dktX20_find_0 := by decide +kernel
theorem dksX20_find_1 : cX20_find.data.toList.drop 23 = dktX20_find_1 := dk_seg dksX20_find_0 23 rfl rfl
theorem dX20_find_0 : decode cX20_find 0 = .ok (.iconst 0, 1) := dk_3 (dk_at dksX20_find_0 0 rfl rfl)
theorem dX20_find_1 : decode cX20_find 1 = .ok (.istore_n 3, 1) := dk_62 (dk_at dksX20_find_0 1 rfl rfl)
theorem dX20_find_2 : decode cX20_find 2 = .ok (.iload_n 3, 1) := dk_29 (dk_at dksX20_find_0 2 rfl rfl)
theorem dX20_find_3 : decode cX20_find 3 = .ok (.aload_n 0, 1) := dk_42 (dk_at dksX20_find_0 3 rfl rfl)
theorem dX20_find_4 : decode cX20_find 4 = .ok (.getfield 43, 3) := dk_180 0 43 (dk_at dksX20_find_0 4 rfl rfl)
theorem dX20_find_7 : decode cX20_find 7 = .ok (.if_icmp .ge 22, 3) := dk_162 0 22 (dk_at dksX20_find_0 7 rfl rfl)
theorem dX20_find_10 : decode cX20_find 10 = .ok (.aload_n 0, 1) := dk_42 (dk_at dksX20_find_0 10 rfl rfl)
theorem dX20_find_11 : decode cX20_find 11 = .ok (.getfield 33, 3) := dk_180 0 33 (dk_at dksX20_find_0 11 rfl rfl)
theorem dX20_find_14 : decode cX20_find 14 = .ok (.iload_n 3, 1) := dk_29 (dk_at dksX20_find_0 14 rfl rfl)
theorem dX20_find_15 : decode cX20_find 15 = .ok (.laload, 1) := dk_47 (dk_at dksX20_find_0 15 rfl rfl)
theorem dX20_find_16 : decode cX20_find 16 = .ok (.lload_n 1, 1) := dk_31 (dk_at dksX20_find_0 16 rfl rfl)
theorem dX20_find_17 : decode cX20_find 17 = .ok (.lcmp, 1) := dk_148 (dk_at dksX20_find_0 17 rfl rfl)
theorem dX20_find_18 : decode cX20_find 18 = .ok (.ifCond .ne 5, 3) := dk_154 0 5 (dk_at dksX20_find_0 18 rfl rfl)
theorem dX20_find_21 : decode cX20_find 21 = .ok (.iload_n 3, 1) := dk_29 (dk_at dksX20_find_0 21 rfl rfl)
theorem dX20_find_22 : decode cX20_find 22 = .ok (.ireturn, 1) := dk_172 (dk_at dksX20_find_0 22 rfl rfl)
theorem dX20_find_23 : decode cX20_find 23 = .ok (.iinc 3 1, 3) := dk_132 3 1 (dk_at dksX20_find_1 0 rfl rfl)
theorem dX20_find_26 : decode cX20_find 26 = .ok (.goto (-24), 3) := dk_167 255 232 (dk_at dksX20_find_1 3 rfl rfl)
theorem dX20_find_29 : decode cX20_find 29 = .ok (.iconst (-1), 1) := dk_2 (dk_at dksX20_find_1 6 rfl rfl)
theorem dX20_find_30 : decode cX20_find 30 = .ok (.ireturn, 1) := dk_172 (dk_at dksX20_find_1 7 rfl rfl)
theorem q144 : (Jvm.Cond.initialized "ElephantLineModel$War") ∈ lw_all := lw_g (lw_at lw_m1 29 rfl) rfl
theorem q1637 : (Jvm.Cond.instantiable "ElephantLineModel$War" (18 : Nat)) ∈ lw_all := lw_g (lw_at lw_m7 82 rfl) rfl
theorem q1639 : (Jvm.Cond.instanceMethod ({ cls := "ElephantLineModel$War", name := "<init>", desc := "()V" } : Jvm.MethodName)) ∈ lw_all := lw_g (lw_at lw_m7 84 rfl) rfl
theorem q1640 : (Jvm.Cond.code ({ cls := "ElephantLineModel$War", name := "<init>", desc := "()V" } : Jvm.MethodName) prog_21_method_1_code (1 : Nat) (Option.none : Option Jvm.ClassFile.FieldType)) ∈ lw_all := lw_g (lw_at lw_m7 85 rfl) rfl
theorem q1641 : (Jvm.Cond.methodLink "ElephantLineModel$War" (3 : Nat) ({ cls := "java/lang/Object", name := "<init>", desc := "()V" } : Jvm.MethodName)) ∈ lw_all := lw_g (lw_at lw_m7 86 rfl) rfl
theorem q1649 : (Jvm.Cond.fieldLink "ElephantLineModel$War" (43 : Nat) "ElephantLineModel$War" "names" "I") ∈ lw_all := lw_g (lw_at lw_m7 94 rfl) rfl
theorem q1651 : (Jvm.Cond.fieldLink "ElephantLineModel$War" (9 : Nat) "ElephantLineModel$War" "who" "[I") ∈ lw_all := lw_g (lw_at lw_m7 96 rfl) rfl
theorem q1653 : (Jvm.Cond.fieldLink "ElephantLineModel$War" (15 : Nat) "ElephantLineModel$War" "strong" "[I") ∈ lw_all := lw_g (lw_at lw_m7 98 rfl) rfl
theorem q1655 : (Jvm.Cond.fieldLink "ElephantLineModel$War" (18 : Nat) "ElephantLineModel$War" "kind" "[I") ∈ lw_all := lw_g (lw_at lw_m7 100 rfl) rfl
theorem q1657 : (Jvm.Cond.fieldLink "ElephantLineModel$War" (21 : Nat) "ElephantLineModel$War" "lane" "[I") ∈ lw_all := lw_g (lw_at lw_m7 102 rfl) rfl
theorem q1659 : (Jvm.Cond.fieldLink "ElephantLineModel$War" (24 : Nat) "ElephantLineModel$War" "mood" "[I") ∈ lw_all := lw_g (lw_at lw_m7 104 rfl) rfl
theorem q1661 : (Jvm.Cond.fieldLink "ElephantLineModel$War" (27 : Nat) "ElephantLineModel$War" "price" "[I") ∈ lw_all := lw_g (lw_at lw_m7 106 rfl) rfl
theorem q1663 : (Jvm.Cond.fieldLink "ElephantLineModel$War" (30 : Nat) "ElephantLineModel$War" "loses" "[I") ∈ lw_all := lw_g (lw_at lw_m7 108 rfl) rfl
theorem q1665 : (Jvm.Cond.fieldLink "ElephantLineModel$War" (33 : Nat) "ElephantLineModel$War" "name" "[J") ∈ lw_all := lw_g (lw_at lw_m7 110 rfl) rfl
theorem q1667 : (Jvm.Cond.fieldLink "ElephantLineModel$War" (37 : Nat) "ElephantLineModel$War" "nameSort" "[I") ∈ lw_all := lw_g (lw_at lw_m7 112 rfl) rfl
theorem q1669 : (Jvm.Cond.fieldLink "ElephantLineModel$War" (40 : Nat) "ElephantLineModel$War" "numberOf" "[I") ∈ lw_all := lw_g (lw_at lw_m7 114 rfl) rfl
theorem q1671 : (Jvm.Cond.lays "ElephantLineModel$War" "ElephantLineModel$War" "lanes" "I") ∈ lw_all := lw_g (lw_at lw_m7 116 rfl) rfl
theorem q1672 : (Jvm.Cond.soleField "ElephantLineModel$War" "lanes") ∈ lw_all := lw_g (lw_at lw_m7 117 rfl) rfl
theorem q1673 : (Jvm.Cond.lays "ElephantLineModel$War" "ElephantLineModel$War" "deep" "I") ∈ lw_all := lw_g (lw_at lw_m7 118 rfl) rfl
theorem q1674 : (Jvm.Cond.soleField "ElephantLineModel$War" "deep") ∈ lw_all := lw_g (lw_at lw_m7 119 rfl) rfl
theorem q1675 : (Jvm.Cond.lays "ElephantLineModel$War" "ElephantLineModel$War" "told" "I") ∈ lw_all := lw_g (lw_at lw_m7 120 rfl) rfl
theorem q1676 : (Jvm.Cond.soleField "ElephantLineModel$War" "told") ∈ lw_all := lw_g (lw_at lw_m7 121 rfl) rfl
theorem q1677 : (Jvm.Cond.lays "ElephantLineModel$War" "ElephantLineModel$War" "beasts" "I") ∈ lw_all := lw_g (lw_at lw_m7 122 rfl) rfl
theorem q1678 : (Jvm.Cond.soleField "ElephantLineModel$War" "beasts") ∈ lw_all := lw_g (lw_at lw_m7 123 rfl) rfl
theorem q1679 : (Jvm.Cond.lays "ElephantLineModel$War" "ElephantLineModel$War" "cities" "I") ∈ lw_all := lw_g (lw_at lw_m7 124 rfl) rfl
theorem q1680 : (Jvm.Cond.soleField "ElephantLineModel$War" "cities") ∈ lw_all := lw_g (lw_at lw_m7 125 rfl) rfl
theorem q1681 : (Jvm.Cond.lays "ElephantLineModel$War" "ElephantLineModel$War" "passes" "I") ∈ lw_all := lw_g (lw_at lw_m7 126 rfl) rfl
theorem q1682 : (Jvm.Cond.soleField "ElephantLineModel$War" "passes") ∈ lw_all := lw_g (lw_at lw_m7 127 rfl) rfl
theorem q1683 : (Jvm.Cond.lays "ElephantLineModel$War" "ElephantLineModel$War" "turned" "I") ∈ lw_all := lw_g (lw_at lw_m7 128 rfl) rfl
theorem q1684 : (Jvm.Cond.soleField "ElephantLineModel$War" "turned") ∈ lw_all := lw_g (lw_at lw_m7 129 rfl) rfl
theorem q1685 : (Jvm.Cond.lays "ElephantLineModel$War" "ElephantLineModel$War" "names" "I") ∈ lw_all := lw_g (lw_at lw_m7 130 rfl) rfl
theorem q1686 : (Jvm.Cond.soleField "ElephantLineModel$War" "names") ∈ lw_all := lw_g (lw_at lw_m7 131 rfl) rfl
theorem q1687 : (Jvm.Cond.laysFinal "ElephantLineModel$War" "ElephantLineModel$War" "who" "[I") ∈ lw_all := lw_g (lw_at lw_m7 132 rfl) rfl
theorem q1688 : (Jvm.Cond.soleField "ElephantLineModel$War" "who") ∈ lw_all := lw_g (lw_at lw_m7 133 rfl) rfl
theorem q1689 : (Jvm.Cond.laysFinal "ElephantLineModel$War" "ElephantLineModel$War" "strong" "[I") ∈ lw_all := lw_g (lw_at lw_m7 134 rfl) rfl
theorem q1690 : (Jvm.Cond.soleField "ElephantLineModel$War" "strong") ∈ lw_all := lw_g (lw_at lw_m7 135 rfl) rfl
theorem q1691 : (Jvm.Cond.laysFinal "ElephantLineModel$War" "ElephantLineModel$War" "kind" "[I") ∈ lw_all := lw_g (lw_at lw_m7 136 rfl) rfl
theorem q1692 : (Jvm.Cond.soleField "ElephantLineModel$War" "kind") ∈ lw_all := lw_g (lw_at lw_m7 137 rfl) rfl
theorem q1693 : (Jvm.Cond.laysFinal "ElephantLineModel$War" "ElephantLineModel$War" "lane" "[I") ∈ lw_all := lw_g (lw_at lw_m7 138 rfl) rfl
theorem q1694 : (Jvm.Cond.soleField "ElephantLineModel$War" "lane") ∈ lw_all := lw_g (lw_at lw_m7 139 rfl) rfl
theorem q1695 : (Jvm.Cond.laysFinal "ElephantLineModel$War" "ElephantLineModel$War" "mood" "[I") ∈ lw_all := lw_g (lw_at lw_m7 140 rfl) rfl
theorem q1696 : (Jvm.Cond.soleField "ElephantLineModel$War" "mood") ∈ lw_all := lw_g (lw_at lw_m7 141 rfl) rfl
theorem q1697 : (Jvm.Cond.laysFinal "ElephantLineModel$War" "ElephantLineModel$War" "price" "[I") ∈ lw_all := lw_g (lw_at lw_m7 142 rfl) rfl
theorem q1698 : (Jvm.Cond.soleField "ElephantLineModel$War" "price") ∈ lw_all := lw_g (lw_at lw_m7 143 rfl) rfl
theorem q1699 : (Jvm.Cond.laysFinal "ElephantLineModel$War" "ElephantLineModel$War" "loses" "[I") ∈ lw_all := lw_g (lw_at lw_m7 144 rfl) rfl
theorem q1700 : (Jvm.Cond.soleField "ElephantLineModel$War" "loses") ∈ lw_all := lw_g (lw_at lw_m7 145 rfl) rfl
theorem q1701 : (Jvm.Cond.laysFinal "ElephantLineModel$War" "ElephantLineModel$War" "name" "[J") ∈ lw_all := lw_g (lw_at lw_m7 146 rfl) rfl
theorem q1702 : (Jvm.Cond.soleField "ElephantLineModel$War" "name") ∈ lw_all := lw_g (lw_at lw_m7 147 rfl) rfl
theorem q1703 : (Jvm.Cond.laysFinal "ElephantLineModel$War" "ElephantLineModel$War" "nameSort" "[I") ∈ lw_all := lw_g (lw_at lw_m7 148 rfl) rfl
theorem q1704 : (Jvm.Cond.soleField "ElephantLineModel$War" "nameSort") ∈ lw_all := lw_g (lw_at lw_m7 149 rfl) rfl
theorem q1705 : (Jvm.Cond.laysFinal "ElephantLineModel$War" "ElephantLineModel$War" "numberOf" "[I") ∈ lw_all := lw_g (lw_at lw_m7 150 rfl) rfl
theorem q1706 : (Jvm.Cond.soleField "ElephantLineModel$War" "numberOf") ∈ lw_all := lw_g (lw_at lw_m7 151 rfl) rfl
theorem q1707 : (Jvm.Cond.superclass "ElephantLineModel$War" "java/lang/Object") ∈ lw_all := lw_g (lw_at lw_m7 152 rfl) rfl
theorem q1830 : (Jvm.Cond.instanceMethod ({ cls := "ElephantLineModel$War", name := "find", desc := "(J)I" } : Jvm.MethodName)) ∈ lw_all := lw_g (lw_at lw_m8 35 rfl) rfl
theorem q1831 : (Jvm.Cond.selects "ElephantLineModel$War" ({ cls := "ElephantLineModel$War", name := "find", desc := "(J)I" } : Jvm.MethodName) ({ cls := "ElephantLineModel$War", name := "find", desc := "(J)I" } : Jvm.MethodName)) ∈ lw_all := lw_g (lw_at lw_m8 36 rfl) rfl
theorem q1832 : (Jvm.Cond.code ({ cls := "ElephantLineModel$War", name := "find", desc := "(J)I" } : Jvm.MethodName) prog_21_method_2_code (4 : Nat) (Option.some Jvm.ClassFile.FieldType.int)) ∈ lw_all := lw_g (lw_at lw_m8 37 rfl) rfl
theorem q2271 : (Jvm.Cond.castable "ElephantLineModel$War" "java/lang/Object") ∈ lw_tbl := lw_at lw_m9 236 rfl
theorem in_X20 : ∀ w ∈ wsX200, w ∈ lw_all := lw_in wsX200 [1671, 1673, 1675, 1677, 1679, 1681, 1683, 1685, 1687, 1689, 1691, 1693, 1695, 1697, 1699, 1701, 1703, 1705] (by decide +kernel) (by decide +kernel)
/-! java/lang/Throwable -/
set_option maxRecDepth 100000
def RJ0 : String := "java/lang/Throwable"
def TJ0 : u_T := fun k => match k with
  | 0 => ("java/lang/Throwable", "cause", "Ljava/lang/Throwable;", false)
  | 1 => ("java/lang/Throwable", "stackTrace", "[Ljava/lang/StackTraceElement;", false)
  | 2 => ("java/lang/Throwable", "suppressedExceptions", "Ljava/util/List;", false)
  | 3 => ("java/lang/Throwable", "detailMessage", "Ljava/lang/String;", false)
  | _ => ("java/lang/Throwable", "backtrace", "Ljava/lang/Object;", false)
def tyJ0 : Nat → FieldType := fun k => match k with
  | 0 => .object "java/lang/Throwable"
  | 1 => .array (.object "java/lang/StackTraceElement")
  | 2 => .object "java/util/List"
  | 3 => .object "java/lang/String"
  | _ => .object "java/lang/Object"
abbrev wsJ00 : List Cond := u_ws RJ0 TJ0 5
theorem nmJ0 : ∀ a, a < 5 → ∀ b, b < 5 → a ≠ b → (TJ0 a).2.1 ≠ (TJ0 b).2.1 := by decide +kernel
theorem tyJ0_ok : ∀ k, k < 5 → parseFieldDescriptor (TJ0 k).2.2.1 = some (tyJ0 k) := by decide +kernel
abbrev cJ0_init : ByteArray := prog_33_method_1_code
def yJ0_init : MethodName := ⟨RJ0, "<init>", "()V"⟩
def dkwJ0_init_1 : List UInt8 := [182, 0, 27, 87, 177]
abbrev dktJ0_init_1 : List UInt8 := dkwJ0_init_1 ++ []
def dkwJ0_init_0 : List UInt8 := [42, 183, 0, 1, 42, 42, 181, 0, 7, 42, 178, 0, 13, 181, 0, 17, 42, 178, 0, 20, 181, 0, 24, 42]
abbrev dktJ0_init_0 : List UInt8 := dkwJ0_init_0 ++ dktJ0_init_1
theorem dksJ0_init_0 : cJ0_init.data.toList.drop 0 = dktJ0_init_0 := by decide +kernel
theorem dksJ0_init_1 : cJ0_init.data.toList.drop 24 = dktJ0_init_1 := dk_seg dksJ0_init_0 24 rfl rfl
theorem dJ0_init_0 : decode cJ0_init 0 = .ok (.aload_n 0, 1) := dk_42 (dk_at dksJ0_init_0 0 rfl rfl)
theorem dJ0_init_1 : decode cJ0_init 1 = .ok (.invokespecial 1, 3) := dk_183 0 1 (dk_at dksJ0_init_0 1 rfl rfl)
theorem dJ0_init_4 : decode cJ0_init 4 = .ok (.aload_n 0, 1) := dk_42 (dk_at dksJ0_init_0 4 rfl rfl)
theorem dJ0_init_5 : decode cJ0_init 5 = .ok (.aload_n 0, 1) := dk_42 (dk_at dksJ0_init_0 5 rfl rfl)
theorem dJ0_init_6 : decode cJ0_init 6 = .ok (.putfield 7, 3) := dk_181 0 7 (dk_at dksJ0_init_0 6 rfl rfl)
theorem dJ0_init_9 : decode cJ0_init 9 = .ok (.aload_n 0, 1) := dk_42 (dk_at dksJ0_init_0 9 rfl rfl)
theorem dJ0_init_10 : decode cJ0_init 10 = .ok (.getstatic 13, 3) := dk_178 0 13 (dk_at dksJ0_init_0 10 rfl rfl)
theorem dJ0_init_13 : decode cJ0_init 13 = .ok (.putfield 17, 3) := dk_181 0 17 (dk_at dksJ0_init_0 13 rfl rfl)
theorem dJ0_init_16 : decode cJ0_init 16 = .ok (.aload_n 0, 1) := dk_42 (dk_at dksJ0_init_0 16 rfl rfl)
theorem dJ0_init_17 : decode cJ0_init 17 = .ok (.getstatic 20, 3) := dk_178 0 20 (dk_at dksJ0_init_0 17 rfl rfl)
theorem dJ0_init_20 : decode cJ0_init 20 = .ok (.putfield 24, 3) := dk_181 0 24 (dk_at dksJ0_init_0 20 rfl rfl)
theorem dJ0_init_23 : decode cJ0_init 23 = .ok (.aload_n 0, 1) := dk_42 (dk_at dksJ0_init_0 23 rfl rfl)
theorem dJ0_init_24 : decode cJ0_init 24 = .ok (.invokevirtual 27, 3) := dk_182 0 27 (dk_at dksJ0_init_1 0 rfl rfl)
theorem dJ0_init_27 : decode cJ0_init 27 = .ok (.pop, 1) := dk_87 (dk_at dksJ0_init_1 3 rfl rfl)
theorem dJ0_init_28 : decode cJ0_init 28 = .ok (.return_, 1) := dk_177 (dk_at dksJ0_init_1 4 rfl rfl)
abbrev cJ0_init_2 : ByteArray := prog_33_method_5_code
def yJ0_init_2 : MethodName := ⟨RJ0, "<init>", "(Ljava/lang/String;Ljava/lang/Throwable;ZZ)V"⟩
def dkwJ0_init_2_2 : List UInt8 := [44, 181, 0, 7, 29, 154, 0, 8, 42, 1, 181, 0, 24, 177]
abbrev dktJ0_init_2_2 : List UInt8 := dkwJ0_init_2_2 ++ []
def dkwJ0_init_2_1 : List UInt8 := [21, 4, 153, 0, 11, 42, 182, 0, 27, 87, 167, 0, 8, 42, 1, 181, 0, 17, 42, 43, 181, 0, 31, 42]
abbrev dktJ0_init_2_1 : List UInt8 := dkwJ0_init_2_1 ++ dktJ0_init_2_2
def dkwJ0_init_2_0 : List UInt8 := [42, 183, 0, 1, 42, 42, 181, 0, 7, 42, 178, 0, 13, 181, 0, 17, 42, 178, 0, 20, 181, 0, 24]
abbrev dktJ0_init_2_0 : List UInt8 := dkwJ0_init_2_0 ++ dktJ0_init_2_1
theorem dksJ0_init_2_0 : cJ0_init_2.data.toList.drop 0 = dktJ0_init_2_0 := by decide +kernel
theorem dksJ0_init_2_1 : cJ0_init_2.data.toList.drop 23 = dktJ0_init_2_1 := dk_seg dksJ0_init_2_0 23 rfl rfl
theorem dksJ0_init_2_2 : cJ0_init_2.data.toList.drop 47 = dktJ0_init_2_2 := dk_seg dksJ0_init_2_1 24 rfl rfl
theorem dJ0_init_2_0 : decode cJ0_init_2 0 = .ok (.aload_n 0, 1) := dk_42 (dk_at dksJ0_init_2_0 0 rfl rfl)
theorem dJ0_init_2_1 : decode cJ0_init_2 1 = .ok (.invokespecial 1, 3) := dk_183 0 1 (dk_at dksJ0_init_2_0 1 rfl rfl)
theorem dJ0_init_2_4 : decode cJ0_init_2 4 = .ok (.aload_n 0, 1) := dk_42 (dk_at dksJ0_init_2_0 4 rfl rfl)
theorem dJ0_init_2_5 : decode cJ0_init_2 5 = .ok (.aload_n 0, 1) := dk_42 (dk_at dksJ0_init_2_0 5 rfl rfl)
theorem dJ0_init_2_6 : decode cJ0_init_2 6 = .ok (.putfield 7, 3) := dk_181 0 7 (dk_at dksJ0_init_2_0 6 rfl rfl)
theorem dJ0_init_2_9 : decode cJ0_init_2 9 = .ok (.aload_n 0, 1) := dk_42 (dk_at dksJ0_init_2_0 9 rfl rfl)
theorem dJ0_init_2_10 : decode cJ0_init_2 10 = .ok (.getstatic 13, 3) := dk_178 0 13 (dk_at dksJ0_init_2_0 10 rfl rfl)
theorem dJ0_init_2_13 : decode cJ0_init_2 13 = .ok (.putfield 17, 3) := dk_181 0 17 (dk_at dksJ0_init_2_0 13 rfl rfl)
theorem dJ0_init_2_16 : decode cJ0_init_2 16 = .ok (.aload_n 0, 1) := dk_42 (dk_at dksJ0_init_2_0 16 rfl rfl)
theorem dJ0_init_2_17 : decode cJ0_init_2 17 = .ok (.getstatic 20, 3) := dk_178 0 20 (dk_at dksJ0_init_2_0 17 rfl rfl)
theorem dJ0_init_2_20 : decode cJ0_init_2 20 = .ok (.putfield 24, 3) := dk_181 0 24 (dk_at dksJ0_init_2_0 20 rfl rfl)
theorem dJ0_init_2_23 : decode cJ0_init_2 23 = .ok (.iload 4, 2) := dk_21 4 (dk_at dksJ0_init_2_1 0 rfl rfl)
theorem dJ0_init_2_25 : decode cJ0_init_2 25 = .ok (.ifCond .eq 11, 3) := dk_153 0 11 (dk_at dksJ0_init_2_1 2 rfl rfl)
theorem dJ0_init_2_28 : decode cJ0_init_2 28 = .ok (.aload_n 0, 1) := dk_42 (dk_at dksJ0_init_2_1 5 rfl rfl)
theorem dJ0_init_2_29 : decode cJ0_init_2 29 = .ok (.invokevirtual 27, 3) := dk_182 0 27 (dk_at dksJ0_init_2_1 6 rfl rfl)
theorem dJ0_init_2_32 : decode cJ0_init_2 32 = .ok (.pop, 1) := dk_87 (dk_at dksJ0_init_2_1 9 rfl rfl)
theorem dJ0_init_2_33 : decode cJ0_init_2 33 = .ok (.goto 8, 3) := dk_167 0 8 (dk_at dksJ0_init_2_1 10 rfl rfl)
theorem dJ0_init_2_36 : decode cJ0_init_2 36 = .ok (.aload_n 0, 1) := dk_42 (dk_at dksJ0_init_2_1 13 rfl rfl)
theorem dJ0_init_2_37 : decode cJ0_init_2 37 = .ok (.aconst_null, 1) := dk_1 (dk_at dksJ0_init_2_1 14 rfl rfl)
theorem dJ0_init_2_38 : decode cJ0_init_2 38 = .ok (.putfield 17, 3) := dk_181 0 17 (dk_at dksJ0_init_2_1 15 rfl rfl)
theorem dJ0_init_2_41 : decode cJ0_init_2 41 = .ok (.aload_n 0, 1) := dk_42 (dk_at dksJ0_init_2_1 18 rfl rfl)
theorem dJ0_init_2_42 : decode cJ0_init_2 42 = .ok (.aload_n 1, 1) := dk_43 (dk_at dksJ0_init_2_1 19 rfl rfl)
theorem dJ0_init_2_43 : decode cJ0_init_2 43 = .ok (.putfield 31, 3) := dk_181 0 31 (dk_at dksJ0_init_2_1 20 rfl rfl)
theorem dJ0_init_2_46 : decode cJ0_init_2 46 = .ok (.aload_n 0, 1) := dk_42 (dk_at dksJ0_init_2_1 23 rfl rfl)
theorem dJ0_init_2_47 : decode cJ0_init_2 47 = .ok (.aload_n 2, 1) := dk_44 (dk_at dksJ0_init_2_2 0 rfl rfl)
theorem dJ0_init_2_48 : decode cJ0_init_2 48 = .ok (.putfield 7, 3) := dk_181 0 7 (dk_at dksJ0_init_2_2 1 rfl rfl)
theorem dJ0_init_2_51 : decode cJ0_init_2 51 = .ok (.iload_n 3, 1) := dk_29 (dk_at dksJ0_init_2_2 4 rfl rfl)
theorem dJ0_init_2_52 : decode cJ0_init_2 52 = .ok (.ifCond .ne 8, 3) := dk_154 0 8 (dk_at dksJ0_init_2_2 5 rfl rfl)
theorem dJ0_init_2_55 : decode cJ0_init_2 55 = .ok (.aload_n 0, 1) := dk_42 (dk_at dksJ0_init_2_2 8 rfl rfl)
theorem dJ0_init_2_56 : decode cJ0_init_2 56 = .ok (.aconst_null, 1) := dk_1 (dk_at dksJ0_init_2_2 9 rfl rfl)
theorem dJ0_init_2_57 : decode cJ0_init_2 57 = .ok (.putfield 24, 3) := dk_181 0 24 (dk_at dksJ0_init_2_2 10 rfl rfl)
theorem dJ0_init_2_60 : decode cJ0_init_2 60 = .ok (.return_, 1) := dk_177 (dk_at dksJ0_init_2_2 13 rfl rfl)
theorem q118 : (Jvm.Cond.initialized "java/lang/Throwable") ∈ lw_all := lw_g (lw_at lw_m1 3 rfl) rfl
theorem q168 : (Jvm.Cond.declares ({ cls := "java/lang/Throwable", name := "<init>", desc := "()V" } : Jvm.MethodName)) ∈ lw_tbl := lw_at lw_m1 53 rfl
theorem q169 : (Jvm.Cond.declares ({ cls := "java/lang/Throwable", name := "<init>", desc := "(Ljava/lang/String;)V" } : Jvm.MethodName)) ∈ lw_tbl := lw_at lw_m1 54 rfl
theorem q173 : (Jvm.Cond.lays "java/lang/Throwable" "java/lang/Throwable" "cause" "Ljava/lang/Throwable;") ∈ lw_all := lw_g (lw_at lw_m1 58 rfl) rfl
theorem q175 : (Jvm.Cond.lays "java/lang/Throwable" "java/lang/Throwable" "stackTrace" "[Ljava/lang/StackTraceElement;") ∈ lw_all := lw_g (lw_at lw_m1 60 rfl) rfl
theorem q177 : (Jvm.Cond.lays "java/lang/Throwable" "java/lang/Throwable" "suppressedExceptions" "Ljava/util/List;") ∈ lw_all := lw_g (lw_at lw_m1 62 rfl) rfl
theorem q179 : (Jvm.Cond.lays "java/lang/Throwable" "java/lang/Throwable" "detailMessage" "Ljava/lang/String;") ∈ lw_all := lw_g (lw_at lw_m1 64 rfl) rfl
theorem q181 : (Jvm.Cond.lays "java/lang/Throwable" "java/lang/Throwable" "backtrace" "Ljava/lang/Object;") ∈ lw_all := lw_g (lw_at lw_m1 66 rfl) rfl
theorem q182 : (Jvm.Cond.fieldLink "java/lang/Throwable" (198 : Nat) "java/lang/Throwable" "backtrace" "Ljava/lang/Object;") ∈ lw_all := lw_g (lw_at lw_m1 67 rfl) rfl
theorem q183 : (Jvm.Cond.superclass "java/lang/Throwable" "java/lang/Object") ∈ lw_all := lw_g (lw_at lw_m1 68 rfl) rfl
theorem q184 : (Jvm.Cond.instanceMethod ({ cls := "java/lang/Throwable", name := "<init>", desc := "()V" } : Jvm.MethodName)) ∈ lw_all := lw_g (lw_at lw_m1 69 rfl) rfl
theorem q185 : (Jvm.Cond.code ({ cls := "java/lang/Throwable", name := "<init>", desc := "()V" } : Jvm.MethodName) prog_33_method_1_code (1 : Nat) (Option.none : Option Jvm.ClassFile.FieldType)) ∈ lw_all := lw_g (lw_at lw_m1 70 rfl) rfl
theorem q186 : (Jvm.Cond.methodLink "java/lang/Throwable" (1 : Nat) ({ cls := "java/lang/Object", name := "<init>", desc := "()V" } : Jvm.MethodName)) ∈ lw_all := lw_g (lw_at lw_m1 71 rfl) rfl
theorem q187 : (Jvm.Cond.fieldLink "java/lang/Throwable" (13 : Nat) "java/lang/Throwable" "UNASSIGNED_STACK" "[Ljava/lang/StackTraceElement;") ∈ lw_all := lw_g (lw_at lw_m1 72 rfl) rfl
theorem q188 : (Jvm.Cond.laysStatic "java/lang/Throwable" "UNASSIGNED_STACK" "[Ljava/lang/StackTraceElement;") ∈ lw_tbl := lw_at lw_m1 73 rfl
theorem q189 : (Jvm.Cond.fieldLink "java/lang/Throwable" (20 : Nat) "java/lang/Throwable" "SUPPRESSED_SENTINEL" "Ljava/util/List;") ∈ lw_all := lw_g (lw_at lw_m1 74 rfl) rfl
theorem q190 : (Jvm.Cond.laysStatic "java/lang/Throwable" "SUPPRESSED_SENTINEL" "Ljava/util/List;") ∈ lw_tbl := lw_at lw_m1 75 rfl
theorem q191 : (Jvm.Cond.methodLink "java/lang/Throwable" (27 : Nat) ({ cls := "java/lang/Throwable", name := "fillInStackTrace", desc := "()Ljava/lang/Throwable;" } : Jvm.MethodName)) ∈ lw_all := lw_g (lw_at lw_m1 76 rfl) rfl
theorem q192 : (Jvm.Cond.instanceMethod ({ cls := "java/lang/Throwable", name := "fillInStackTrace", desc := "()Ljava/lang/Throwable;" } : Jvm.MethodName)) ∈ lw_all := lw_g (lw_at lw_m1 77 rfl) rfl
theorem q193 : (Jvm.Cond.sameMethod "java/lang/Throwable" "java/lang/Throwable" "fillInStackTrace" "()Ljava/lang/Throwable;") ∈ lw_all := lw_g (lw_at lw_m1 78 rfl) rfl
theorem q195 : (Jvm.Cond.codeSync ({ cls := "java/lang/Throwable", name := "fillInStackTrace", desc := "()Ljava/lang/Throwable;" } : Jvm.MethodName) prog_33_method_18_code (1 : Nat) (Option.some (Jvm.ClassFile.FieldType.object "java/lang/Throwable"))) ∈ lw_all := lw_g (lw_at lw_m1 80 rfl) rfl
theorem q196 : (Jvm.Cond.methodLink "java/lang/Throwable" (202 : Nat) ({ cls := "java/lang/Throwable", name := "fillInStackTrace", desc := "(I)Ljava/lang/Throwable;" } : Jvm.MethodName)) ∈ lw_all := lw_g (lw_at lw_m1 81 rfl) rfl
theorem q197 : (Jvm.Cond.privateMethod ({ cls := "java/lang/Throwable", name := "fillInStackTrace", desc := "(I)Ljava/lang/Throwable;" } : Jvm.MethodName)) ∈ lw_tbl := lw_at lw_m1 82 rfl
theorem q198 : (Jvm.Cond.instanceMethod ({ cls := "java/lang/Throwable", name := "fillInStackTrace", desc := "(I)Ljava/lang/Throwable;" } : Jvm.MethodName)) ∈ lw_all := lw_g (lw_at lw_m1 83 rfl) rfl
theorem q199 : (Jvm.Cond.instantiable "java/lang/Throwable" (6 : Nat)) ∈ lw_all := lw_g (lw_at lw_m1 84 rfl) rfl
theorem q200 : (Jvm.Cond.native ({ cls := "java/lang/Throwable", name := "fillInStackTrace", desc := "(I)Ljava/lang/Throwable;" } : Jvm.MethodName)) ∈ lw_all := lw_g (lw_at lw_m1 85 rfl) rfl
theorem q211 : (Jvm.Cond.instanceMethod ({ cls := "java/lang/Throwable", name := "<init>", desc := "(Ljava/lang/String;Ljava/lang/Throwable;ZZ)V" } : Jvm.MethodName)) ∈ lw_all := lw_g (lw_at lw_m1 96 rfl) rfl
theorem q212 : (Jvm.Cond.code ({ cls := "java/lang/Throwable", name := "<init>", desc := "(Ljava/lang/String;Ljava/lang/Throwable;ZZ)V" } : Jvm.MethodName) prog_33_method_5_code (5 : Nat) (Option.none : Option Jvm.ClassFile.FieldType)) ∈ lw_all := lw_g (lw_at lw_m1 97 rfl) rfl
theorem q217 : (Jvm.Cond.fieldLink "java/lang/Throwable" (198 : Nat) "java/lang/Throwable" "backtrace" "Ljava/lang/Object;") ∈ lw_all := lw_g (lw_at lw_m1 102 rfl) rfl
theorem q218 : (Jvm.Cond.fieldLink "java/lang/Throwable" (31 : Nat) "java/lang/Throwable" "detailMessage" "Ljava/lang/String;") ∈ lw_all := lw_g (lw_at lw_m1 103 rfl) rfl
theorem q219 : (Jvm.Cond.fieldLink "java/lang/Throwable" (7 : Nat) "java/lang/Throwable" "cause" "Ljava/lang/Throwable;") ∈ lw_all := lw_g (lw_at lw_m1 104 rfl) rfl
theorem q220 : (Jvm.Cond.fieldLink "java/lang/Throwable" (17 : Nat) "java/lang/Throwable" "stackTrace" "[Ljava/lang/StackTraceElement;") ∈ lw_all := lw_g (lw_at lw_m1 105 rfl) rfl
theorem q221 : (Jvm.Cond.fieldLink "java/lang/Throwable" (24 : Nat) "java/lang/Throwable" "suppressedExceptions" "Ljava/util/List;") ∈ lw_all := lw_g (lw_at lw_m1 106 rfl) rfl
theorem q226 : (Jvm.Cond.soleField "java/lang/Throwable" "backtrace") ∈ lw_all := lw_g (lw_at lw_m1 111 rfl) rfl
theorem q227 : (Jvm.Cond.soleField "java/lang/Throwable" "detailMessage") ∈ lw_all := lw_g (lw_at lw_m1 112 rfl) rfl
theorem q228 : (Jvm.Cond.soleField "java/lang/Throwable" "cause") ∈ lw_all := lw_g (lw_at lw_m1 113 rfl) rfl
theorem q229 : (Jvm.Cond.soleField "java/lang/Throwable" "stackTrace") ∈ lw_all := lw_g (lw_at lw_m1 114 rfl) rfl
theorem q231 : (Jvm.Cond.soleField "java/lang/Throwable" "depth") ∈ lw_all := lw_g (lw_at lw_m1 116 rfl) rfl
theorem q232 : (Jvm.Cond.soleField "java/lang/Throwable" "suppressedExceptions") ∈ lw_all := lw_g (lw_at lw_m1 117 rfl) rfl
theorem q2247 : (Jvm.Cond.sameMethod "java/lang/Throwable" "java/lang/Throwable" "fillInStackTrace" "(I)Ljava/lang/Throwable;") ∈ lw_all := lw_g (lw_at lw_m9 212 rfl) rfl
theorem q2273 : (Jvm.Cond.castable "java/lang/Throwable" "java/lang/Object") ∈ lw_tbl := lw_at lw_m9 238 rfl
theorem in_J0 : ∀ w ∈ wsJ00, w ∈ lw_all := lw_in wsJ00 [173, 175, 177, 179, 181] (by decide +kernel) (by decide +kernel)
/-! java/lang/Exception -/
set_option maxRecDepth 100000
def RJ1 : String := "java/lang/Exception"
abbrev cJ1_init : ByteArray := prog_25_method_5_code
def yJ1_init : MethodName := ⟨RJ1, "<init>", "(Ljava/lang/String;Ljava/lang/Throwable;ZZ)V"⟩
def dkwJ1_init_0 : List UInt8 := [42, 43, 44, 29, 21, 4, 183, 0, 16, 177]
abbrev dktJ1_init_0 : List UInt8 := dkwJ1_init_0 ++ []
theorem dksJ1_init_0 : cJ1_init.data.toList.drop 0 = dktJ1_init_0 := by decide +kernel
theorem dJ1_init_0 : decode cJ1_init 0 = .ok (.aload_n 0, 1) := dk_42 (dk_at dksJ1_init_0 0 rfl rfl)
theorem dJ1_init_1 : decode cJ1_init 1 = .ok (.aload_n 1, 1) := dk_43 (dk_at dksJ1_init_0 1 rfl rfl)
theorem dJ1_init_2 : decode cJ1_init 2 = .ok (.aload_n 2, 1) := dk_44 (dk_at dksJ1_init_0 2 rfl rfl)
theorem dJ1_init_3 : decode cJ1_init 3 = .ok (.iload_n 3, 1) := dk_29 (dk_at dksJ1_init_0 3 rfl rfl)
theorem dJ1_init_4 : decode cJ1_init 4 = .ok (.iload 4, 2) := dk_21 4 (dk_at dksJ1_init_0 4 rfl rfl)
theorem dJ1_init_6 : decode cJ1_init 6 = .ok (.invokespecial 16, 3) := dk_183 0 16 (dk_at dksJ1_init_0 6 rfl rfl)
theorem dJ1_init_9 : decode cJ1_init 9 = .ok (.return_, 1) := dk_177 (dk_at dksJ1_init_0 9 rfl rfl)
abbrev cJ1_init_2 : ByteArray := prog_25_method_1_code
def yJ1_init_2 : MethodName := ⟨RJ1, "<init>", "()V"⟩
theorem dJ1_init_2_0 : decode cJ1_init_2 0 = .ok (.aload_n 0, 1) := by decide +kernel
theorem dJ1_init_2_1 : decode cJ1_init_2 1 = .ok (.invokespecial 1, 3) := by decide +kernel
theorem dJ1_init_2_4 : decode cJ1_init_2 4 = .ok (.return_, 1) := by decide +kernel
theorem q119 : (Jvm.Cond.initialized "java/lang/Exception") ∈ lw_all := lw_g (lw_at lw_m1 4 rfl) rfl
theorem q166 : (Jvm.Cond.declares ({ cls := "java/lang/Exception", name := "<init>", desc := "()V" } : Jvm.MethodName)) ∈ lw_tbl := lw_at lw_m1 51 rfl
theorem q167 : (Jvm.Cond.declares ({ cls := "java/lang/Exception", name := "<init>", desc := "(Ljava/lang/String;)V" } : Jvm.MethodName)) ∈ lw_tbl := lw_at lw_m1 52 rfl
theorem q208 : (Jvm.Cond.instanceMethod ({ cls := "java/lang/Exception", name := "<init>", desc := "(Ljava/lang/String;Ljava/lang/Throwable;ZZ)V" } : Jvm.MethodName)) ∈ lw_all := lw_g (lw_at lw_m1 93 rfl) rfl
theorem q209 : (Jvm.Cond.code ({ cls := "java/lang/Exception", name := "<init>", desc := "(Ljava/lang/String;Ljava/lang/Throwable;ZZ)V" } : Jvm.MethodName) prog_25_method_5_code (5 : Nat) (Option.none : Option Jvm.ClassFile.FieldType)) ∈ lw_all := lw_g (lw_at lw_m1 94 rfl) rfl
theorem q210 : (Jvm.Cond.methodLink "java/lang/Exception" (16 : Nat) ({ cls := "java/lang/Throwable", name := "<init>", desc := "(Ljava/lang/String;Ljava/lang/Throwable;ZZ)V" } : Jvm.MethodName)) ∈ lw_all := lw_g (lw_at lw_m1 95 rfl) rfl
theorem q1491 : (Jvm.Cond.instanceMethod ({ cls := "java/lang/Exception", name := "<init>", desc := "()V" } : Jvm.MethodName)) ∈ lw_all := lw_g (lw_at lw_m6 176 rfl) rfl
theorem q1492 : (Jvm.Cond.code ({ cls := "java/lang/Exception", name := "<init>", desc := "()V" } : Jvm.MethodName) prog_25_method_1_code (1 : Nat) (Option.none : Option Jvm.ClassFile.FieldType)) ∈ lw_all := lw_g (lw_at lw_m6 177 rfl) rfl
theorem q1493 : (Jvm.Cond.methodLink "java/lang/Exception" (1 : Nat) ({ cls := "java/lang/Throwable", name := "<init>", desc := "()V" } : Jvm.MethodName)) ∈ lw_all := lw_g (lw_at lw_m6 178 rfl) rfl
/-! java/lang/RuntimeException -/
set_option maxRecDepth 100000
def RJ2 : String := "java/lang/RuntimeException"
abbrev cJ2_init : ByteArray := prog_27_method_5_code
def yJ2_init : MethodName := ⟨RJ2, "<init>", "(Ljava/lang/String;Ljava/lang/Throwable;ZZ)V"⟩
def dkwJ2_init_0 : List UInt8 := [42, 43, 44, 29, 21, 4, 183, 0, 16, 177]
abbrev dktJ2_init_0 : List UInt8 := dkwJ2_init_0 ++ []
theorem dksJ2_init_0 : cJ2_init.data.toList.drop 0 = dktJ2_init_0 := by decide +kernel
theorem dJ2_init_0 : decode cJ2_init 0 = .ok (.aload_n 0, 1) := dk_42 (dk_at dksJ2_init_0 0 rfl rfl)
theorem dJ2_init_1 : decode cJ2_init 1 = .ok (.aload_n 1, 1) := dk_43 (dk_at dksJ2_init_0 1 rfl rfl)
theorem dJ2_init_2 : decode cJ2_init 2 = .ok (.aload_n 2, 1) := dk_44 (dk_at dksJ2_init_0 2 rfl rfl)
theorem dJ2_init_3 : decode cJ2_init 3 = .ok (.iload_n 3, 1) := dk_29 (dk_at dksJ2_init_0 3 rfl rfl)
theorem dJ2_init_4 : decode cJ2_init 4 = .ok (.iload 4, 2) := dk_21 4 (dk_at dksJ2_init_0 4 rfl rfl)
theorem dJ2_init_6 : decode cJ2_init 6 = .ok (.invokespecial 16, 3) := dk_183 0 16 (dk_at dksJ2_init_0 6 rfl rfl)
theorem dJ2_init_9 : decode cJ2_init 9 = .ok (.return_, 1) := dk_177 (dk_at dksJ2_init_0 9 rfl rfl)
abbrev cJ2_init_2 : ByteArray := prog_27_method_1_code
def yJ2_init_2 : MethodName := ⟨RJ2, "<init>", "()V"⟩
theorem dJ2_init_2_0 : decode cJ2_init_2 0 = .ok (.aload_n 0, 1) := by decide +kernel
theorem dJ2_init_2_1 : decode cJ2_init_2 1 = .ok (.invokespecial 1, 3) := by decide +kernel
theorem dJ2_init_2_4 : decode cJ2_init_2 4 = .ok (.return_, 1) := by decide +kernel
theorem q120 : (Jvm.Cond.initialized "java/lang/RuntimeException") ∈ lw_all := lw_g (lw_at lw_m1 5 rfl) rfl
theorem q164 : (Jvm.Cond.declares ({ cls := "java/lang/RuntimeException", name := "<init>", desc := "()V" } : Jvm.MethodName)) ∈ lw_tbl := lw_at lw_m1 49 rfl
theorem q165 : (Jvm.Cond.declares ({ cls := "java/lang/RuntimeException", name := "<init>", desc := "(Ljava/lang/String;)V" } : Jvm.MethodName)) ∈ lw_tbl := lw_at lw_m1 50 rfl
theorem q205 : (Jvm.Cond.instanceMethod ({ cls := "java/lang/RuntimeException", name := "<init>", desc := "(Ljava/lang/String;Ljava/lang/Throwable;ZZ)V" } : Jvm.MethodName)) ∈ lw_all := lw_g (lw_at lw_m1 90 rfl) rfl
theorem q206 : (Jvm.Cond.code ({ cls := "java/lang/RuntimeException", name := "<init>", desc := "(Ljava/lang/String;Ljava/lang/Throwable;ZZ)V" } : Jvm.MethodName) prog_27_method_5_code (5 : Nat) (Option.none : Option Jvm.ClassFile.FieldType)) ∈ lw_all := lw_g (lw_at lw_m1 91 rfl) rfl
theorem q207 : (Jvm.Cond.methodLink "java/lang/RuntimeException" (16 : Nat) ({ cls := "java/lang/Exception", name := "<init>", desc := "(Ljava/lang/String;Ljava/lang/Throwable;ZZ)V" } : Jvm.MethodName)) ∈ lw_all := lw_g (lw_at lw_m1 92 rfl) rfl
theorem q1488 : (Jvm.Cond.instanceMethod ({ cls := "java/lang/RuntimeException", name := "<init>", desc := "()V" } : Jvm.MethodName)) ∈ lw_all := lw_g (lw_at lw_m6 173 rfl) rfl
theorem q1489 : (Jvm.Cond.code ({ cls := "java/lang/RuntimeException", name := "<init>", desc := "()V" } : Jvm.MethodName) prog_27_method_1_code (1 : Nat) (Option.none : Option Jvm.ClassFile.FieldType)) ∈ lw_all := lw_g (lw_at lw_m6 174 rfl) rfl
theorem q1490 : (Jvm.Cond.methodLink "java/lang/RuntimeException" (1 : Nat) ({ cls := "java/lang/Exception", name := "<init>", desc := "()V" } : Jvm.MethodName)) ∈ lw_all := lw_g (lw_at lw_m6 175 rfl) rfl
/-! java/lang/String -/
set_option maxRecDepth 100000
def RJ3 : String := "java/lang/String"
def TJ3 : u_T := fun k => match k with
  | 0 => ("java/lang/String", "value", "[B", true)
  | 1 => ("java/lang/String", "coder", "B", true)
  | 2 => ("java/lang/String", "hash", "I", false)
  | _ => ("java/lang/String", "hashIsZero", "Z", false)
def tyJ3 : Nat → FieldType := fun k => match k with
  | 0 => .array .byte
  | 1 => .byte
  | 2 => .int
  | _ => .boolean
abbrev wsJ30 : List Cond := u_ws RJ3 TJ3 4
theorem nmJ3 : ∀ a, a < 4 → ∀ b, b < 4 → a ≠ b → (TJ3 a).2.1 ≠ (TJ3 b).2.1 := by decide +kernel
theorem tyJ3_ok : ∀ k, k < 4 → parseFieldDescriptor (TJ3 k).2.2.1 = some (tyJ3 k) := by decide +kernel
abbrev cJ3_init : ByteArray := prog_28_method_4_code
def yJ3_init : MethodName := ⟨RJ3, "<init>", "([CII)V"⟩
def dkwJ3_init_0 : List UInt8 := [42, 43, 28, 29, 43, 28, 29, 184, 0, 30, 183, 0, 27, 177]
abbrev dktJ3_init_0 : List UInt8 := dkwJ3_init_0 ++ []
theorem dksJ3_init_0 : cJ3_init.data.toList.drop 0 = dktJ3_init_0 := by decide +kernel
theorem dJ3_init_0 : decode cJ3_init 0 = .ok (.aload_n 0, 1) := dk_42 (dk_at dksJ3_init_0 0 rfl rfl)
theorem dJ3_init_1 : decode cJ3_init 1 = .ok (.aload_n 1, 1) := dk_43 (dk_at dksJ3_init_0 1 rfl rfl)
theorem dJ3_init_2 : decode cJ3_init 2 = .ok (.iload_n 2, 1) := dk_28 (dk_at dksJ3_init_0 2 rfl rfl)
theorem dJ3_init_3 : decode cJ3_init 3 = .ok (.iload_n 3, 1) := dk_29 (dk_at dksJ3_init_0 3 rfl rfl)
theorem dJ3_init_4 : decode cJ3_init 4 = .ok (.aload_n 1, 1) := dk_43 (dk_at dksJ3_init_0 4 rfl rfl)
theorem dJ3_init_5 : decode cJ3_init 5 = .ok (.iload_n 2, 1) := dk_28 (dk_at dksJ3_init_0 5 rfl rfl)
theorem dJ3_init_6 : decode cJ3_init 6 = .ok (.iload_n 3, 1) := dk_29 (dk_at dksJ3_init_0 6 rfl rfl)
theorem dJ3_init_7 : decode cJ3_init 7 = .ok (.invokestatic 30, 3) := dk_184 0 30 (dk_at dksJ3_init_0 7 rfl rfl)
theorem dJ3_init_10 : decode cJ3_init 10 = .ok (.invokespecial 27, 3) := dk_183 0 27 (dk_at dksJ3_init_0 10 rfl rfl)
theorem dJ3_init_13 : decode cJ3_init 13 = .ok (.return_, 1) := dk_177 (dk_at dksJ3_init_0 13 rfl rfl)
abbrev cJ3_rangeCheck : ByteArray := prog_28_method_5_code
def yJ3_rangeCheck : MethodName := ⟨RJ3, "rangeCheck", "([CII)Ljava/lang/Void;"⟩
def dkwJ3_rangeCheck_0 : List UInt8 := [27, 28, 42, 190, 184, 0, 34, 87, 1, 176]
abbrev dktJ3_rangeCheck_0 : List UInt8 := dkwJ3_rangeCheck_0 ++ []
theorem dksJ3_rangeCheck_0 : cJ3_rangeCheck.data.toList.drop 0 = dktJ3_rangeCheck_0 := by decide +kernel
theorem dJ3_rangeCheck_0 : decode cJ3_rangeCheck 0 = .ok (.iload_n 1, 1) := dk_27 (dk_at dksJ3_rangeCheck_0 0 rfl rfl)
theorem dJ3_rangeCheck_1 : decode cJ3_rangeCheck 1 = .ok (.iload_n 2, 1) := dk_28 (dk_at dksJ3_rangeCheck_0 1 rfl rfl)
theorem dJ3_rangeCheck_2 : decode cJ3_rangeCheck 2 = .ok (.aload_n 0, 1) := dk_42 (dk_at dksJ3_rangeCheck_0 2 rfl rfl)
theorem dJ3_rangeCheck_3 : decode cJ3_rangeCheck 3 = .ok (.arraylength, 1) := dk_190 (dk_at dksJ3_rangeCheck_0 3 rfl rfl)
theorem dJ3_rangeCheck_4 : decode cJ3_rangeCheck 4 = .ok (.invokestatic 34, 3) := dk_184 0 34 (dk_at dksJ3_rangeCheck_0 4 rfl rfl)
theorem dJ3_rangeCheck_7 : decode cJ3_rangeCheck 7 = .ok (.pop, 1) := dk_87 (dk_at dksJ3_rangeCheck_0 7 rfl rfl)
theorem dJ3_rangeCheck_8 : decode cJ3_rangeCheck 8 = .ok (.aconst_null, 1) := dk_1 (dk_at dksJ3_rangeCheck_0 8 rfl rfl)
theorem dJ3_rangeCheck_9 : decode cJ3_rangeCheck 9 = .ok (.areturn, 1) := dk_176 (dk_at dksJ3_rangeCheck_0 9 rfl rfl)
abbrev cJ3_checkBoundsOffCount : ByteArray := prog_28_method_157_code
def yJ3_checkBoundsOffCount : MethodName := ⟨RJ3, "checkBoundsOffCount", "(III)I"⟩
def dkwJ3_checkBoundsOffCount_0 : List UInt8 := [26, 27, 28, 178, 4, 29, 184, 4, 41, 172]
abbrev dktJ3_checkBoundsOffCount_0 : List UInt8 := dkwJ3_checkBoundsOffCount_0 ++ []
theorem dksJ3_checkBoundsOffCount_0 : cJ3_checkBoundsOffCount.data.toList.drop 0 = dktJ3_checkBoundsOffCount_0 := by decide +kernel
theorem dJ3_checkBoundsOffCount_0 : decode cJ3_checkBoundsOffCount 0 = .ok (.iload_n 0, 1) := dk_26 (dk_at dksJ3_checkBoundsOffCount_0 0 rfl rfl)
theorem dJ3_checkBoundsOffCount_1 : decode cJ3_checkBoundsOffCount 1 = .ok (.iload_n 1, 1) := dk_27 (dk_at dksJ3_checkBoundsOffCount_0 1 rfl rfl)
theorem dJ3_checkBoundsOffCount_2 : decode cJ3_checkBoundsOffCount 2 = .ok (.iload_n 2, 1) := dk_28 (dk_at dksJ3_checkBoundsOffCount_0 2 rfl rfl)
theorem dJ3_checkBoundsOffCount_3 : decode cJ3_checkBoundsOffCount 3 = .ok (.getstatic 1053, 3) := dk_178 4 29 (dk_at dksJ3_checkBoundsOffCount_0 3 rfl rfl)
theorem dJ3_checkBoundsOffCount_6 : decode cJ3_checkBoundsOffCount 6 = .ok (.invokestatic 1065, 3) := dk_184 4 41 (dk_at dksJ3_checkBoundsOffCount_0 6 rfl rfl)
theorem dJ3_checkBoundsOffCount_9 : decode cJ3_checkBoundsOffCount 9 = .ok (.ireturn, 1) := dk_172 (dk_at dksJ3_checkBoundsOffCount_0 9 rfl rfl)
abbrev cJ3_init_2 : ByteArray := prog_28_method_149_code
def yJ3_init_2 : MethodName := ⟨RJ3, "<init>", "([CIILjava/lang/Void;)V"⟩
def dkwJ3_init_2_3 : List UInt8 := [184, 0, 180, 181, 0, 9, 177]
abbrev dktJ3_init_2_3 : List UInt8 := dkwJ3_init_2_3 ++ []
def dkwJ3_init_2_2 : List UInt8 := [184, 0, 47, 181, 0, 15, 42, 25, 5, 181, 0, 9, 177, 42, 4, 181, 0, 15, 42, 43, 28, 29]
abbrev dktJ3_init_2_2 : List UInt8 := dkwJ3_init_2_2 ++ dktJ3_init_2_3
def dkwJ3_init_2_1 : List UInt8 := [181, 0, 15, 177, 178, 0, 38, 153, 0, 28, 43, 28, 29, 184, 0, 177, 58, 5, 42, 25, 5, 29]
abbrev dktJ3_init_2_1 : List UInt8 := dkwJ3_init_2_1 ++ dktJ3_init_2_2
def dkwJ3_init_2_0 : List UInt8 := [42, 183, 0, 1, 29, 154, 0, 22, 42, 18, 7, 180, 0, 9, 181, 0, 9, 42, 18, 7, 180, 0, 15]
abbrev dktJ3_init_2_0 : List UInt8 := dkwJ3_init_2_0 ++ dktJ3_init_2_1
theorem dksJ3_init_2_0 : cJ3_init_2.data.toList.drop 0 = dktJ3_init_2_0 := by decide +kernel
theorem dksJ3_init_2_1 : cJ3_init_2.data.toList.drop 23 = dktJ3_init_2_1 := dk_seg dksJ3_init_2_0 23 rfl rfl
theorem dksJ3_init_2_2 : cJ3_init_2.data.toList.drop 45 = dktJ3_init_2_2 := dk_seg dksJ3_init_2_1 22 rfl rfl
theorem dksJ3_init_2_3 : cJ3_init_2.data.toList.drop 67 = dktJ3_init_2_3 := dk_seg dksJ3_init_2_2 22 rfl rfl
theorem dJ3_init_2_0 : decode cJ3_init_2 0 = .ok (.aload_n 0, 1) := dk_42 (dk_at dksJ3_init_2_0 0 rfl rfl)
theorem dJ3_init_2_1 : decode cJ3_init_2 1 = .ok (.invokespecial 1, 3) := dk_183 0 1 (dk_at dksJ3_init_2_0 1 rfl rfl)
theorem dJ3_init_2_4 : decode cJ3_init_2 4 = .ok (.iload_n 3, 1) := dk_29 (dk_at dksJ3_init_2_0 4 rfl rfl)
theorem dJ3_init_2_5 : decode cJ3_init_2 5 = .ok (.ifCond .ne 22, 3) := dk_154 0 22 (dk_at dksJ3_init_2_0 5 rfl rfl)
theorem dJ3_init_2_8 : decode cJ3_init_2 8 = .ok (.aload_n 0, 1) := dk_42 (dk_at dksJ3_init_2_0 8 rfl rfl)
theorem dJ3_init_2_9 : decode cJ3_init_2 9 = .ok (.ldc 7, 2) := dk_18 7 (dk_at dksJ3_init_2_0 9 rfl rfl)
theorem dJ3_init_2_11 : decode cJ3_init_2 11 = .ok (.getfield 9, 3) := dk_180 0 9 (dk_at dksJ3_init_2_0 11 rfl rfl)
theorem dJ3_init_2_14 : decode cJ3_init_2 14 = .ok (.putfield 9, 3) := dk_181 0 9 (dk_at dksJ3_init_2_0 14 rfl rfl)
theorem dJ3_init_2_17 : decode cJ3_init_2 17 = .ok (.aload_n 0, 1) := dk_42 (dk_at dksJ3_init_2_0 17 rfl rfl)
theorem dJ3_init_2_18 : decode cJ3_init_2 18 = .ok (.ldc 7, 2) := dk_18 7 (dk_at dksJ3_init_2_0 18 rfl rfl)
theorem dJ3_init_2_20 : decode cJ3_init_2 20 = .ok (.getfield 15, 3) := dk_180 0 15 (dk_at dksJ3_init_2_0 20 rfl rfl)
theorem dJ3_init_2_23 : decode cJ3_init_2 23 = .ok (.putfield 15, 3) := dk_181 0 15 (dk_at dksJ3_init_2_1 0 rfl rfl)
theorem dJ3_init_2_26 : decode cJ3_init_2 26 = .ok (.return_, 1) := dk_177 (dk_at dksJ3_init_2_1 3 rfl rfl)
theorem dJ3_init_2_27 : decode cJ3_init_2 27 = .ok (.getstatic 38, 3) := dk_178 0 38 (dk_at dksJ3_init_2_1 4 rfl rfl)
theorem dJ3_init_2_30 : decode cJ3_init_2 30 = .ok (.ifCond .eq 28, 3) := dk_153 0 28 (dk_at dksJ3_init_2_1 7 rfl rfl)
theorem dJ3_init_2_33 : decode cJ3_init_2 33 = .ok (.aload_n 1, 1) := dk_43 (dk_at dksJ3_init_2_1 10 rfl rfl)
theorem dJ3_init_2_34 : decode cJ3_init_2 34 = .ok (.iload_n 2, 1) := dk_28 (dk_at dksJ3_init_2_1 11 rfl rfl)
theorem dJ3_init_2_35 : decode cJ3_init_2 35 = .ok (.iload_n 3, 1) := dk_29 (dk_at dksJ3_init_2_1 12 rfl rfl)
theorem dJ3_init_2_36 : decode cJ3_init_2 36 = .ok (.invokestatic 177, 3) := dk_184 0 177 (dk_at dksJ3_init_2_1 13 rfl rfl)
theorem dJ3_init_2_39 : decode cJ3_init_2 39 = .ok (.astore 5, 2) := dk_58 5 (dk_at dksJ3_init_2_1 16 rfl rfl)
theorem dJ3_init_2_41 : decode cJ3_init_2 41 = .ok (.aload_n 0, 1) := dk_42 (dk_at dksJ3_init_2_1 18 rfl rfl)
theorem dJ3_init_2_42 : decode cJ3_init_2 42 = .ok (.aload 5, 2) := dk_25 5 (dk_at dksJ3_init_2_1 19 rfl rfl)
theorem dJ3_init_2_44 : decode cJ3_init_2 44 = .ok (.iload_n 3, 1) := dk_29 (dk_at dksJ3_init_2_1 21 rfl rfl)
theorem dJ3_init_2_45 : decode cJ3_init_2 45 = .ok (.invokestatic 47, 3) := dk_184 0 47 (dk_at dksJ3_init_2_2 0 rfl rfl)
theorem dJ3_init_2_48 : decode cJ3_init_2 48 = .ok (.putfield 15, 3) := dk_181 0 15 (dk_at dksJ3_init_2_2 3 rfl rfl)
theorem dJ3_init_2_51 : decode cJ3_init_2 51 = .ok (.aload_n 0, 1) := dk_42 (dk_at dksJ3_init_2_2 6 rfl rfl)
theorem dJ3_init_2_52 : decode cJ3_init_2 52 = .ok (.aload 5, 2) := dk_25 5 (dk_at dksJ3_init_2_2 7 rfl rfl)
theorem dJ3_init_2_54 : decode cJ3_init_2 54 = .ok (.putfield 9, 3) := dk_181 0 9 (dk_at dksJ3_init_2_2 9 rfl rfl)
theorem dJ3_init_2_57 : decode cJ3_init_2 57 = .ok (.return_, 1) := dk_177 (dk_at dksJ3_init_2_2 12 rfl rfl)
theorem dJ3_init_2_58 : decode cJ3_init_2 58 = .ok (.aload_n 0, 1) := dk_42 (dk_at dksJ3_init_2_2 13 rfl rfl)
theorem dJ3_init_2_59 : decode cJ3_init_2 59 = .ok (.iconst 1, 1) := dk_4 (dk_at dksJ3_init_2_2 14 rfl rfl)
theorem dJ3_init_2_60 : decode cJ3_init_2 60 = .ok (.putfield 15, 3) := dk_181 0 15 (dk_at dksJ3_init_2_2 15 rfl rfl)
theorem dJ3_init_2_63 : decode cJ3_init_2 63 = .ok (.aload_n 0, 1) := dk_42 (dk_at dksJ3_init_2_2 18 rfl rfl)
theorem dJ3_init_2_64 : decode cJ3_init_2 64 = .ok (.aload_n 1, 1) := dk_43 (dk_at dksJ3_init_2_2 19 rfl rfl)
theorem dJ3_init_2_65 : decode cJ3_init_2 65 = .ok (.iload_n 2, 1) := dk_28 (dk_at dksJ3_init_2_2 20 rfl rfl)
theorem dJ3_init_2_66 : decode cJ3_init_2 66 = .ok (.iload_n 3, 1) := dk_29 (dk_at dksJ3_init_2_2 21 rfl rfl)
theorem dJ3_init_2_67 : decode cJ3_init_2 67 = .ok (.invokestatic 180, 3) := dk_184 0 180 (dk_at dksJ3_init_2_3 0 rfl rfl)
theorem dJ3_init_2_70 : decode cJ3_init_2 70 = .ok (.putfield 9, 3) := dk_181 0 9 (dk_at dksJ3_init_2_3 3 rfl rfl)
theorem dJ3_init_2_73 : decode cJ3_init_2 73 = .ok (.return_, 1) := dk_177 (dk_at dksJ3_init_2_3 6 rfl rfl)
abbrev cJ3_hashCode : ByteArray := prog_28_method_78_code
def yJ3_hashCode : MethodName := ⟨RJ3, "hashCode", "()I"⟩
def dkwJ3_hashCode_2 : List UInt8 := [181, 0, 23, 167, 0, 8, 42, 27, 181, 0, 19, 27, 172]
abbrev dktJ3_hashCode_2 : List UInt8 := dkwJ3_hashCode_2 ++ []
def dkwJ3_hashCode_1 : List UInt8 := [180, 0, 9, 184, 2, 116, 167, 0, 10, 42, 180, 0, 9, 184, 2, 120, 60, 27, 154, 0, 11, 42, 4]
abbrev dktJ3_hashCode_1 : List UInt8 := dkwJ3_hashCode_1 ++ dktJ3_hashCode_2
def dkwJ3_hashCode_0 : List UInt8 := [42, 180, 0, 19, 60, 27, 154, 0, 52, 42, 180, 0, 23, 154, 0, 45, 42, 182, 1, 236, 153, 0, 13, 42]
abbrev dktJ3_hashCode_0 : List UInt8 := dkwJ3_hashCode_0 ++ dktJ3_hashCode_1
theorem dksJ3_hashCode_0 : cJ3_hashCode.data.toList.drop 0 = dktJ3_hashCode_0 := by decide +kernel
theorem dksJ3_hashCode_1 : cJ3_hashCode.data.toList.drop 24 = dktJ3_hashCode_1 := dk_seg dksJ3_hashCode_0 24 rfl rfl
theorem dksJ3_hashCode_2 : cJ3_hashCode.data.toList.drop 47 = dktJ3_hashCode_2 := dk_seg dksJ3_hashCode_1 23 rfl rfl
theorem dJ3_hashCode_0 : decode cJ3_hashCode 0 = .ok (.aload_n 0, 1) := dk_42 (dk_at dksJ3_hashCode_0 0 rfl rfl)
theorem dJ3_hashCode_1 : decode cJ3_hashCode 1 = .ok (.getfield 19, 3) := dk_180 0 19 (dk_at dksJ3_hashCode_0 1 rfl rfl)
theorem dJ3_hashCode_4 : decode cJ3_hashCode 4 = .ok (.istore_n 1, 1) := dk_60 (dk_at dksJ3_hashCode_0 4 rfl rfl)
theorem dJ3_hashCode_5 : decode cJ3_hashCode 5 = .ok (.iload_n 1, 1) := dk_27 (dk_at dksJ3_hashCode_0 5 rfl rfl)
theorem dJ3_hashCode_6 : decode cJ3_hashCode 6 = .ok (.ifCond .ne 52, 3) := dk_154 0 52 (dk_at dksJ3_hashCode_0 6 rfl rfl)
theorem dJ3_hashCode_9 : decode cJ3_hashCode 9 = .ok (.aload_n 0, 1) := dk_42 (dk_at dksJ3_hashCode_0 9 rfl rfl)
theorem dJ3_hashCode_10 : decode cJ3_hashCode 10 = .ok (.getfield 23, 3) := dk_180 0 23 (dk_at dksJ3_hashCode_0 10 rfl rfl)
theorem dJ3_hashCode_13 : decode cJ3_hashCode 13 = .ok (.ifCond .ne 45, 3) := dk_154 0 45 (dk_at dksJ3_hashCode_0 13 rfl rfl)
theorem dJ3_hashCode_16 : decode cJ3_hashCode 16 = .ok (.aload_n 0, 1) := dk_42 (dk_at dksJ3_hashCode_0 16 rfl rfl)
theorem dJ3_hashCode_17 : decode cJ3_hashCode 17 = .ok (.invokevirtual 492, 3) := dk_182 1 236 (dk_at dksJ3_hashCode_0 17 rfl rfl)
theorem dJ3_hashCode_20 : decode cJ3_hashCode 20 = .ok (.ifCond .eq 13, 3) := dk_153 0 13 (dk_at dksJ3_hashCode_0 20 rfl rfl)
theorem dJ3_hashCode_23 : decode cJ3_hashCode 23 = .ok (.aload_n 0, 1) := dk_42 (dk_at dksJ3_hashCode_0 23 rfl rfl)
theorem dJ3_hashCode_24 : decode cJ3_hashCode 24 = .ok (.getfield 9, 3) := dk_180 0 9 (dk_at dksJ3_hashCode_1 0 rfl rfl)
theorem dJ3_hashCode_27 : decode cJ3_hashCode 27 = .ok (.invokestatic 628, 3) := dk_184 2 116 (dk_at dksJ3_hashCode_1 3 rfl rfl)
theorem dJ3_hashCode_30 : decode cJ3_hashCode 30 = .ok (.goto 10, 3) := dk_167 0 10 (dk_at dksJ3_hashCode_1 6 rfl rfl)
theorem dJ3_hashCode_33 : decode cJ3_hashCode 33 = .ok (.aload_n 0, 1) := dk_42 (dk_at dksJ3_hashCode_1 9 rfl rfl)
theorem dJ3_hashCode_34 : decode cJ3_hashCode 34 = .ok (.getfield 9, 3) := dk_180 0 9 (dk_at dksJ3_hashCode_1 10 rfl rfl)
theorem dJ3_hashCode_37 : decode cJ3_hashCode 37 = .ok (.invokestatic 632, 3) := dk_184 2 120 (dk_at dksJ3_hashCode_1 13 rfl rfl)
theorem dJ3_hashCode_40 : decode cJ3_hashCode 40 = .ok (.istore_n 1, 1) := dk_60 (dk_at dksJ3_hashCode_1 16 rfl rfl)
theorem dJ3_hashCode_41 : decode cJ3_hashCode 41 = .ok (.iload_n 1, 1) := dk_27 (dk_at dksJ3_hashCode_1 17 rfl rfl)
theorem dJ3_hashCode_42 : decode cJ3_hashCode 42 = .ok (.ifCond .ne 11, 3) := dk_154 0 11 (dk_at dksJ3_hashCode_1 18 rfl rfl)
theorem dJ3_hashCode_45 : decode cJ3_hashCode 45 = .ok (.aload_n 0, 1) := dk_42 (dk_at dksJ3_hashCode_1 21 rfl rfl)
theorem dJ3_hashCode_46 : decode cJ3_hashCode 46 = .ok (.iconst 1, 1) := dk_4 (dk_at dksJ3_hashCode_1 22 rfl rfl)
theorem dJ3_hashCode_47 : decode cJ3_hashCode 47 = .ok (.putfield 23, 3) := dk_181 0 23 (dk_at dksJ3_hashCode_2 0 rfl rfl)
theorem dJ3_hashCode_50 : decode cJ3_hashCode 50 = .ok (.goto 8, 3) := dk_167 0 8 (dk_at dksJ3_hashCode_2 3 rfl rfl)
theorem dJ3_hashCode_53 : decode cJ3_hashCode 53 = .ok (.aload_n 0, 1) := dk_42 (dk_at dksJ3_hashCode_2 6 rfl rfl)
theorem dJ3_hashCode_54 : decode cJ3_hashCode 54 = .ok (.iload_n 1, 1) := dk_27 (dk_at dksJ3_hashCode_2 7 rfl rfl)
theorem dJ3_hashCode_55 : decode cJ3_hashCode 55 = .ok (.putfield 19, 3) := dk_181 0 19 (dk_at dksJ3_hashCode_2 8 rfl rfl)
theorem dJ3_hashCode_58 : decode cJ3_hashCode 58 = .ok (.iload_n 1, 1) := dk_27 (dk_at dksJ3_hashCode_2 11 rfl rfl)
theorem dJ3_hashCode_59 : decode cJ3_hashCode 59 = .ok (.ireturn, 1) := dk_172 (dk_at dksJ3_hashCode_2 12 rfl rfl)
abbrev cJ3_isLatin1 : ByteArray := prog_28_method_154_code
def yJ3_isLatin1 : MethodName := ⟨RJ3, "isLatin1", "()Z"⟩
def dkwJ3_isLatin1_0 : List UInt8 := [178, 0, 38, 153, 0, 14, 42, 180, 0, 15, 154, 0, 7, 4, 167, 0, 4, 3, 172]
abbrev dktJ3_isLatin1_0 : List UInt8 := dkwJ3_isLatin1_0 ++ []
theorem dksJ3_isLatin1_0 : cJ3_isLatin1.data.toList.drop 0 = dktJ3_isLatin1_0 := by decide +kernel
theorem dJ3_isLatin1_0 : decode cJ3_isLatin1 0 = .ok (.getstatic 38, 3) := dk_178 0 38 (dk_at dksJ3_isLatin1_0 0 rfl rfl)
theorem dJ3_isLatin1_3 : decode cJ3_isLatin1 3 = .ok (.ifCond .eq 14, 3) := dk_153 0 14 (dk_at dksJ3_isLatin1_0 3 rfl rfl)
theorem dJ3_isLatin1_6 : decode cJ3_isLatin1 6 = .ok (.aload_n 0, 1) := dk_42 (dk_at dksJ3_isLatin1_0 6 rfl rfl)
theorem dJ3_isLatin1_7 : decode cJ3_isLatin1 7 = .ok (.getfield 15, 3) := dk_180 0 15 (dk_at dksJ3_isLatin1_0 7 rfl rfl)
theorem dJ3_isLatin1_10 : decode cJ3_isLatin1 10 = .ok (.ifCond .ne 7, 3) := dk_154 0 7 (dk_at dksJ3_isLatin1_0 10 rfl rfl)
theorem dJ3_isLatin1_13 : decode cJ3_isLatin1 13 = .ok (.iconst 1, 1) := dk_4 (dk_at dksJ3_isLatin1_0 13 rfl rfl)
theorem dJ3_isLatin1_14 : decode cJ3_isLatin1 14 = .ok (.goto 4, 3) := dk_167 0 4 (dk_at dksJ3_isLatin1_0 14 rfl rfl)
theorem dJ3_isLatin1_17 : decode cJ3_isLatin1 17 = .ok (.iconst 0, 1) := dk_3 (dk_at dksJ3_isLatin1_0 17 rfl rfl)
theorem dJ3_isLatin1_18 : decode cJ3_isLatin1 18 = .ok (.ireturn, 1) := dk_172 (dk_at dksJ3_isLatin1_0 18 rfl rfl)
abbrev cJ3_equals : ByteArray := prog_28_method_66_code
def yJ3_equals : MethodName := ⟨RJ3, "equals", "(Ljava/lang/Object;)Z"⟩
def dkwJ3_equals_2 : List UInt8 := [184, 2, 29, 153, 0, 7, 4, 167, 0, 4, 3, 172]
abbrev dktJ3_equals_2 : List UInt8 := dkwJ3_equals_2 ++ []
def dkwJ3_equals_1 : List UInt8 := [153, 0, 14, 42, 180, 0, 15, 44, 180, 0, 15, 160, 0, 21, 42, 180, 0, 9, 44, 180, 0, 9]
abbrev dktJ3_equals_1 : List UInt8 := dkwJ3_equals_1 ++ dktJ3_equals_2
def dkwJ3_equals_0 : List UInt8 := [42, 43, 166, 0, 5, 4, 172, 43, 193, 0, 10, 153, 0, 43, 43, 192, 0, 10, 77, 178, 0, 38]
abbrev dktJ3_equals_0 : List UInt8 := dkwJ3_equals_0 ++ dktJ3_equals_1
theorem dksJ3_equals_0 : cJ3_equals.data.toList.drop 0 = dktJ3_equals_0 := by decide +kernel
theorem dksJ3_equals_1 : cJ3_equals.data.toList.drop 22 = dktJ3_equals_1 := dk_seg dksJ3_equals_0 22 rfl rfl
theorem dksJ3_equals_2 : cJ3_equals.data.toList.drop 44 = dktJ3_equals_2 := dk_seg dksJ3_equals_1 22 rfl rfl
theorem dJ3_equals_0 : decode cJ3_equals 0 = .ok (.aload_n 0, 1) := dk_42 (dk_at dksJ3_equals_0 0 rfl rfl)
theorem dJ3_equals_1 : decode cJ3_equals 1 = .ok (.aload_n 1, 1) := dk_43 (dk_at dksJ3_equals_0 1 rfl rfl)
theorem dJ3_equals_2 : decode cJ3_equals 2 = .ok (.if_acmp .ne 5, 3) := dk_166 0 5 (dk_at dksJ3_equals_0 2 rfl rfl)
theorem dJ3_equals_5 : decode cJ3_equals 5 = .ok (.iconst 1, 1) := dk_4 (dk_at dksJ3_equals_0 5 rfl rfl)
theorem dJ3_equals_6 : decode cJ3_equals 6 = .ok (.ireturn, 1) := dk_172 (dk_at dksJ3_equals_0 6 rfl rfl)
theorem dJ3_equals_7 : decode cJ3_equals 7 = .ok (.aload_n 1, 1) := dk_43 (dk_at dksJ3_equals_0 7 rfl rfl)
theorem dJ3_equals_8 : decode cJ3_equals 8 = .ok (.instanceof 10, 3) := dk_193 0 10 (dk_at dksJ3_equals_0 8 rfl rfl)
theorem dJ3_equals_11 : decode cJ3_equals 11 = .ok (.ifCond .eq 43, 3) := dk_153 0 43 (dk_at dksJ3_equals_0 11 rfl rfl)
theorem dJ3_equals_14 : decode cJ3_equals 14 = .ok (.aload_n 1, 1) := dk_43 (dk_at dksJ3_equals_0 14 rfl rfl)
theorem dJ3_equals_15 : decode cJ3_equals 15 = .ok (.checkcast 10, 3) := dk_192 0 10 (dk_at dksJ3_equals_0 15 rfl rfl)
theorem dJ3_equals_18 : decode cJ3_equals 18 = .ok (.astore_n 2, 1) := dk_77 (dk_at dksJ3_equals_0 18 rfl rfl)
theorem dJ3_equals_19 : decode cJ3_equals 19 = .ok (.getstatic 38, 3) := dk_178 0 38 (dk_at dksJ3_equals_0 19 rfl rfl)
theorem dJ3_equals_22 : decode cJ3_equals 22 = .ok (.ifCond .eq 14, 3) := dk_153 0 14 (dk_at dksJ3_equals_1 0 rfl rfl)
theorem dJ3_equals_25 : decode cJ3_equals 25 = .ok (.aload_n 0, 1) := dk_42 (dk_at dksJ3_equals_1 3 rfl rfl)
theorem dJ3_equals_26 : decode cJ3_equals 26 = .ok (.getfield 15, 3) := dk_180 0 15 (dk_at dksJ3_equals_1 4 rfl rfl)
theorem dJ3_equals_29 : decode cJ3_equals 29 = .ok (.aload_n 2, 1) := dk_44 (dk_at dksJ3_equals_1 7 rfl rfl)
theorem dJ3_equals_30 : decode cJ3_equals 30 = .ok (.getfield 15, 3) := dk_180 0 15 (dk_at dksJ3_equals_1 8 rfl rfl)
theorem dJ3_equals_33 : decode cJ3_equals 33 = .ok (.if_icmp .ne 21, 3) := dk_160 0 21 (dk_at dksJ3_equals_1 11 rfl rfl)
theorem dJ3_equals_36 : decode cJ3_equals 36 = .ok (.aload_n 0, 1) := dk_42 (dk_at dksJ3_equals_1 14 rfl rfl)
theorem dJ3_equals_37 : decode cJ3_equals 37 = .ok (.getfield 9, 3) := dk_180 0 9 (dk_at dksJ3_equals_1 15 rfl rfl)
theorem dJ3_equals_40 : decode cJ3_equals 40 = .ok (.aload_n 2, 1) := dk_44 (dk_at dksJ3_equals_1 18 rfl rfl)
theorem dJ3_equals_41 : decode cJ3_equals 41 = .ok (.getfield 9, 3) := dk_180 0 9 (dk_at dksJ3_equals_1 19 rfl rfl)
theorem dJ3_equals_44 : decode cJ3_equals 44 = .ok (.invokestatic 541, 3) := dk_184 2 29 (dk_at dksJ3_equals_2 0 rfl rfl)
theorem dJ3_equals_47 : decode cJ3_equals 47 = .ok (.ifCond .eq 7, 3) := dk_153 0 7 (dk_at dksJ3_equals_2 3 rfl rfl)
theorem dJ3_equals_50 : decode cJ3_equals 50 = .ok (.iconst 1, 1) := dk_4 (dk_at dksJ3_equals_2 6 rfl rfl)
theorem dJ3_equals_51 : decode cJ3_equals 51 = .ok (.goto 4, 3) := dk_167 0 4 (dk_at dksJ3_equals_2 7 rfl rfl)
theorem dJ3_equals_54 : decode cJ3_equals 54 = .ok (.iconst 0, 1) := dk_3 (dk_at dksJ3_equals_2 10 rfl rfl)
theorem dJ3_equals_55 : decode cJ3_equals 55 = .ok (.ireturn, 1) := dk_172 (dk_at dksJ3_equals_2 11 rfl rfl)
abbrev cJ3_length : ByteArray := prog_28_method_54_code
def yJ3_length : MethodName := ⟨RJ3, "length", "()I"⟩
def dkwJ3_length_0 : List UInt8 := [42, 180, 0, 9, 190, 42, 182, 1, 79, 122, 172]
abbrev dktJ3_length_0 : List UInt8 := dkwJ3_length_0 ++ []
theorem dksJ3_length_0 : cJ3_length.data.toList.drop 0 = dktJ3_length_0 := by decide +kernel
theorem dJ3_length_0 : decode cJ3_length 0 = .ok (.aload_n 0, 1) := dk_42 (dk_at dksJ3_length_0 0 rfl rfl)
theorem dJ3_length_1 : decode cJ3_length 1 = .ok (.getfield 9, 3) := dk_180 0 9 (dk_at dksJ3_length_0 1 rfl rfl)
theorem dJ3_length_4 : decode cJ3_length 4 = .ok (.arraylength, 1) := dk_190 (dk_at dksJ3_length_0 4 rfl rfl)
theorem dJ3_length_5 : decode cJ3_length 5 = .ok (.aload_n 0, 1) := dk_42 (dk_at dksJ3_length_0 5 rfl rfl)
theorem dJ3_length_6 : decode cJ3_length 6 = .ok (.invokevirtual 335, 3) := dk_182 1 79 (dk_at dksJ3_length_0 6 rfl rfl)
theorem dJ3_length_9 : decode cJ3_length 9 = .ok (.ishr, 1) := dk_122 (dk_at dksJ3_length_0 9 rfl rfl)
theorem dJ3_length_10 : decode cJ3_length 10 = .ok (.ireturn, 1) := dk_172 (dk_at dksJ3_length_0 10 rfl rfl)
abbrev cJ3_coder : ByteArray := prog_28_method_152_code
def yJ3_coder : MethodName := ⟨RJ3, "coder", "()B"⟩
def dkwJ3_coder_0 : List UInt8 := [178, 0, 38, 153, 0, 10, 42, 180, 0, 15, 167, 0, 4, 4, 172]
abbrev dktJ3_coder_0 : List UInt8 := dkwJ3_coder_0 ++ []
theorem dksJ3_coder_0 : cJ3_coder.data.toList.drop 0 = dktJ3_coder_0 := by decide +kernel
theorem dJ3_coder_0 : decode cJ3_coder 0 = .ok (.getstatic 38, 3) := dk_178 0 38 (dk_at dksJ3_coder_0 0 rfl rfl)
theorem dJ3_coder_3 : decode cJ3_coder 3 = .ok (.ifCond .eq 10, 3) := dk_153 0 10 (dk_at dksJ3_coder_0 3 rfl rfl)
theorem dJ3_coder_6 : decode cJ3_coder 6 = .ok (.aload_n 0, 1) := dk_42 (dk_at dksJ3_coder_0 6 rfl rfl)
theorem dJ3_coder_7 : decode cJ3_coder 7 = .ok (.getfield 15, 3) := dk_180 0 15 (dk_at dksJ3_coder_0 7 rfl rfl)
theorem dJ3_coder_10 : decode cJ3_coder 10 = .ok (.goto 4, 3) := dk_167 0 4 (dk_at dksJ3_coder_0 10 rfl rfl)
theorem dJ3_coder_13 : decode cJ3_coder 13 = .ok (.iconst 1, 1) := dk_4 (dk_at dksJ3_coder_0 13 rfl rfl)
theorem dJ3_coder_14 : decode cJ3_coder 14 = .ok (.ireturn, 1) := dk_172 (dk_at dksJ3_coder_0 14 rfl rfl)
abbrev cJ3_charAt : ByteArray := prog_28_method_56_code
def yJ3_charAt : MethodName := ⟨RJ3, "charAt", "(I)C"⟩
def dkwJ3_charAt_1 : List UInt8 := [172]
abbrev dktJ3_charAt_1 : List UInt8 := dkwJ3_charAt_1 ++ []
def dkwJ3_charAt_0 : List UInt8 := [42, 182, 1, 236, 153, 0, 12, 42, 180, 0, 9, 27, 184, 1, 239, 172, 42, 180, 0, 9, 27, 184, 1, 242]
abbrev dktJ3_charAt_0 : List UInt8 := dkwJ3_charAt_0 ++ dktJ3_charAt_1
theorem dksJ3_charAt_0 : cJ3_charAt.data.toList.drop 0 = dktJ3_charAt_0 := by decide +kernel
theorem dksJ3_charAt_1 : cJ3_charAt.data.toList.drop 24 = dktJ3_charAt_1 := dk_seg dksJ3_charAt_0 24 rfl rfl
theorem dJ3_charAt_0 : decode cJ3_charAt 0 = .ok (.aload_n 0, 1) := dk_42 (dk_at dksJ3_charAt_0 0 rfl rfl)
theorem dJ3_charAt_1 : decode cJ3_charAt 1 = .ok (.invokevirtual 492, 3) := dk_182 1 236 (dk_at dksJ3_charAt_0 1 rfl rfl)
theorem dJ3_charAt_4 : decode cJ3_charAt 4 = .ok (.ifCond .eq 12, 3) := dk_153 0 12 (dk_at dksJ3_charAt_0 4 rfl rfl)
theorem dJ3_charAt_7 : decode cJ3_charAt 7 = .ok (.aload_n 0, 1) := dk_42 (dk_at dksJ3_charAt_0 7 rfl rfl)
theorem dJ3_charAt_8 : decode cJ3_charAt 8 = .ok (.getfield 9, 3) := dk_180 0 9 (dk_at dksJ3_charAt_0 8 rfl rfl)
theorem dJ3_charAt_11 : decode cJ3_charAt 11 = .ok (.iload_n 1, 1) := dk_27 (dk_at dksJ3_charAt_0 11 rfl rfl)
theorem dJ3_charAt_12 : decode cJ3_charAt 12 = .ok (.invokestatic 495, 3) := dk_184 1 239 (dk_at dksJ3_charAt_0 12 rfl rfl)
theorem dJ3_charAt_15 : decode cJ3_charAt 15 = .ok (.ireturn, 1) := dk_172 (dk_at dksJ3_charAt_0 15 rfl rfl)
theorem dJ3_charAt_16 : decode cJ3_charAt 16 = .ok (.aload_n 0, 1) := dk_42 (dk_at dksJ3_charAt_0 16 rfl rfl)
theorem dJ3_charAt_17 : decode cJ3_charAt 17 = .ok (.getfield 9, 3) := dk_180 0 9 (dk_at dksJ3_charAt_0 17 rfl rfl)
theorem dJ3_charAt_20 : decode cJ3_charAt 20 = .ok (.iload_n 1, 1) := dk_27 (dk_at dksJ3_charAt_0 20 rfl rfl)
theorem dJ3_charAt_21 : decode cJ3_charAt 21 = .ok (.invokestatic 498, 3) := dk_184 1 242 (dk_at dksJ3_charAt_0 21 rfl rfl)
theorem dJ3_charAt_24 : decode cJ3_charAt 24 = .ok (.ireturn, 1) := dk_172 (dk_at dksJ3_charAt_1 0 rfl rfl)
abbrev cJ3_checkIndex : ByteArray := prog_28_method_155_code
def yJ3_checkIndex : MethodName := ⟨RJ3, "checkIndex", "(II)V"⟩
def dkwJ3_checkIndex_0 : List UInt8 := [26, 27, 178, 4, 29, 184, 4, 35, 87, 177]
abbrev dktJ3_checkIndex_0 : List UInt8 := dkwJ3_checkIndex_0 ++ []
theorem dksJ3_checkIndex_0 : cJ3_checkIndex.data.toList.drop 0 = dktJ3_checkIndex_0 := by decide +kernel
theorem dJ3_checkIndex_0 : decode cJ3_checkIndex 0 = .ok (.iload_n 0, 1) := dk_26 (dk_at dksJ3_checkIndex_0 0 rfl rfl)
theorem dJ3_checkIndex_1 : decode cJ3_checkIndex 1 = .ok (.iload_n 1, 1) := dk_27 (dk_at dksJ3_checkIndex_0 1 rfl rfl)
theorem dJ3_checkIndex_2 : decode cJ3_checkIndex 2 = .ok (.getstatic 1053, 3) := dk_178 4 29 (dk_at dksJ3_checkIndex_0 2 rfl rfl)
theorem dJ3_checkIndex_5 : decode cJ3_checkIndex 5 = .ok (.invokestatic 1059, 3) := dk_184 4 35 (dk_at dksJ3_checkIndex_0 5 rfl rfl)
theorem dJ3_checkIndex_8 : decode cJ3_checkIndex 8 = .ok (.pop, 1) := dk_87 (dk_at dksJ3_checkIndex_0 8 rfl rfl)
theorem dJ3_checkIndex_9 : decode cJ3_checkIndex 9 = .ok (.return_, 1) := dk_177 (dk_at dksJ3_checkIndex_0 9 rfl rfl)
theorem q127 : (Jvm.Cond.initialized "java/lang/String") ∈ lw_all := lw_g (lw_at lw_m1 12 rfl) rfl
theorem q553 : (Jvm.Cond.instantiable "java/lang/String" (4 : Nat)) ∈ lw_all := lw_g (lw_at lw_m2 198 rfl) rfl
theorem q555 : (Jvm.Cond.instanceMethod ({ cls := "java/lang/String", name := "<init>", desc := "([CII)V" } : Jvm.MethodName)) ∈ lw_all := lw_g (lw_at lw_m2 200 rfl) rfl
theorem q556 : (Jvm.Cond.code ({ cls := "java/lang/String", name := "<init>", desc := "([CII)V" } : Jvm.MethodName) prog_28_method_4_code (4 : Nat) (Option.none : Option Jvm.ClassFile.FieldType)) ∈ lw_all := lw_g (lw_at lw_m2 201 rfl) rfl
theorem q557 : (Jvm.Cond.methodLink "java/lang/String" (30 : Nat) ({ cls := "java/lang/String", name := "rangeCheck", desc := "([CII)Ljava/lang/Void;" } : Jvm.MethodName)) ∈ lw_all := lw_g (lw_at lw_m2 202 rfl) rfl
theorem q558 : (Jvm.Cond.static ({ cls := "java/lang/String", name := "rangeCheck", desc := "([CII)Ljava/lang/Void;" } : Jvm.MethodName)) ∈ lw_all := lw_g (lw_at lw_m2 203 rfl) rfl
theorem q559 : (Jvm.Cond.code ({ cls := "java/lang/String", name := "rangeCheck", desc := "([CII)Ljava/lang/Void;" } : Jvm.MethodName) prog_28_method_5_code (3 : Nat) (Option.some (Jvm.ClassFile.FieldType.object "java/lang/Void"))) ∈ lw_all := lw_g (lw_at lw_m2 204 rfl) rfl
theorem q560 : (Jvm.Cond.methodLink "java/lang/String" (34 : Nat) ({ cls := "java/lang/String", name := "checkBoundsOffCount", desc := "(III)I" } : Jvm.MethodName)) ∈ lw_all := lw_g (lw_at lw_m2 205 rfl) rfl
theorem q561 : (Jvm.Cond.static ({ cls := "java/lang/String", name := "checkBoundsOffCount", desc := "(III)I" } : Jvm.MethodName)) ∈ lw_all := lw_g (lw_at lw_m2 206 rfl) rfl
theorem q562 : (Jvm.Cond.code ({ cls := "java/lang/String", name := "checkBoundsOffCount", desc := "(III)I" } : Jvm.MethodName) prog_28_method_157_code (3 : Nat) (Option.some Jvm.ClassFile.FieldType.int)) ∈ lw_all := lw_g (lw_at lw_m2 207 rfl) rfl
theorem q563 : (Jvm.Cond.fieldLink "java/lang/String" (1053 : Nat) "jdk/internal/util/Preconditions" "SIOOBE_FORMATTER" "Ljava/util/function/BiFunction;") ∈ lw_all := lw_g (lw_at lw_m2 208 rfl) rfl
theorem q565 : (Jvm.Cond.methodLink "java/lang/String" (1065 : Nat) ({ cls := "jdk/internal/util/Preconditions", name := "checkFromIndexSize", desc := "(IIILjava/util/function/BiFunction;)I" } : Jvm.MethodName)) ∈ lw_all := lw_g (lw_at lw_m2 210 rfl) rfl
theorem q568 : (Jvm.Cond.methodLink "java/lang/String" (27 : Nat) ({ cls := "java/lang/String", name := "<init>", desc := "([CIILjava/lang/Void;)V" } : Jvm.MethodName)) ∈ lw_all := lw_g (lw_at lw_m2 213 rfl) rfl
theorem q569 : (Jvm.Cond.instanceMethod ({ cls := "java/lang/String", name := "<init>", desc := "([CIILjava/lang/Void;)V" } : Jvm.MethodName)) ∈ lw_all := lw_g (lw_at lw_m2 214 rfl) rfl
theorem q570 : (Jvm.Cond.code ({ cls := "java/lang/String", name := "<init>", desc := "([CIILjava/lang/Void;)V" } : Jvm.MethodName) prog_28_method_149_code (6 : Nat) (Option.none : Option Jvm.ClassFile.FieldType)) ∈ lw_all := lw_g (lw_at lw_m2 215 rfl) rfl
theorem q571 : (Jvm.Cond.methodLink "java/lang/String" (1 : Nat) ({ cls := "java/lang/Object", name := "<init>", desc := "()V" } : Jvm.MethodName)) ∈ lw_all := lw_g (lw_at lw_m2 216 rfl) rfl
theorem q572 : (Jvm.Cond.stringRef "java/lang/String" (7 : Nat) "") ∈ lw_tbl := lw_at lw_m2 217 rfl
theorem q573 : (Jvm.Cond.fieldLink "java/lang/String" (38 : Nat) "java/lang/String" "COMPACT_STRINGS" "Z") ∈ lw_all := lw_g (lw_at lw_m2 218 rfl) rfl
theorem q574 : (Jvm.Cond.laysStatic "java/lang/String" "COMPACT_STRINGS" "Z") ∈ lw_tbl := lw_at lw_m2 219 rfl
theorem q575 : (Jvm.Cond.methodLink "java/lang/String" (177 : Nat) ({ cls := "java/lang/StringUTF16", name := "compress", desc := "([CII)[B" } : Jvm.MethodName)) ∈ lw_all := lw_g (lw_at lw_m2 220 rfl) rfl
theorem q613 : (Jvm.Cond.methodLink "java/lang/String" (47 : Nat) ({ cls := "java/lang/StringUTF16", name := "coderFromArrayLen", desc := "([BI)B" } : Jvm.MethodName)) ∈ lw_all := lw_g (lw_at lw_m3 18 rfl) rfl
theorem q616 : (Jvm.Cond.methodLink "java/lang/String" (180 : Nat) ({ cls := "java/lang/StringUTF16", name := "toBytes", desc := "([CII)[B" } : Jvm.MethodName)) ∈ lw_all := lw_g (lw_at lw_m3 21 rfl) rfl
theorem q617 : (Jvm.Cond.fieldLink "java/lang/String" (9 : Nat) "java/lang/String" "value" "[B") ∈ lw_all := lw_g (lw_at lw_m3 22 rfl) rfl
theorem q618 : (Jvm.Cond.fieldLink "java/lang/String" (15 : Nat) "java/lang/String" "coder" "B") ∈ lw_all := lw_g (lw_at lw_m3 23 rfl) rfl
theorem q619 : (Jvm.Cond.fieldLink "java/lang/String" (19 : Nat) "java/lang/String" "hash" "I") ∈ lw_all := lw_g (lw_at lw_m3 24 rfl) rfl
theorem q620 : (Jvm.Cond.fieldLink "java/lang/String" (23 : Nat) "java/lang/String" "hashIsZero" "Z") ∈ lw_all := lw_g (lw_at lw_m3 25 rfl) rfl
theorem q621 : (Jvm.Cond.laysFinal "java/lang/String" "java/lang/String" "value" "[B") ∈ lw_all := lw_g (lw_at lw_m3 26 rfl) rfl
theorem q622 : (Jvm.Cond.soleField "java/lang/String" "value") ∈ lw_all := lw_g (lw_at lw_m3 27 rfl) rfl
theorem q623 : (Jvm.Cond.laysFinal "java/lang/String" "java/lang/String" "coder" "B") ∈ lw_all := lw_g (lw_at lw_m3 28 rfl) rfl
theorem q624 : (Jvm.Cond.soleField "java/lang/String" "coder") ∈ lw_all := lw_g (lw_at lw_m3 29 rfl) rfl
theorem q625 : (Jvm.Cond.lays "java/lang/String" "java/lang/String" "hash" "I") ∈ lw_all := lw_g (lw_at lw_m3 30 rfl) rfl
theorem q626 : (Jvm.Cond.soleField "java/lang/String" "hash") ∈ lw_all := lw_g (lw_at lw_m3 31 rfl) rfl
theorem q627 : (Jvm.Cond.lays "java/lang/String" "java/lang/String" "hashIsZero" "Z") ∈ lw_all := lw_g (lw_at lw_m3 32 rfl) rfl
theorem q628 : (Jvm.Cond.soleField "java/lang/String" "hashIsZero") ∈ lw_all := lw_g (lw_at lw_m3 33 rfl) rfl
theorem q629 : (Jvm.Cond.superclass "java/lang/String" "java/lang/Object") ∈ lw_all := lw_g (lw_at lw_m3 34 rfl) rfl
theorem q647 : (Jvm.Cond.instanceMethod ({ cls := "java/lang/String", name := "hashCode", desc := "()I" } : Jvm.MethodName)) ∈ lw_all := lw_g (lw_at lw_m3 52 rfl) rfl
theorem q648 : (Jvm.Cond.selects "java/lang/String" ({ cls := "java/lang/String", name := "hashCode", desc := "()I" } : Jvm.MethodName) ({ cls := "java/lang/String", name := "hashCode", desc := "()I" } : Jvm.MethodName)) ∈ lw_all := lw_g (lw_at lw_m3 53 rfl) rfl
theorem q649 : (Jvm.Cond.code ({ cls := "java/lang/String", name := "hashCode", desc := "()I" } : Jvm.MethodName) prog_28_method_78_code (2 : Nat) (Option.some Jvm.ClassFile.FieldType.int)) ∈ lw_all := lw_g (lw_at lw_m3 54 rfl) rfl
theorem q650 : (Jvm.Cond.methodLink "java/lang/String" (492 : Nat) ({ cls := "java/lang/String", name := "isLatin1", desc := "()Z" } : Jvm.MethodName)) ∈ lw_all := lw_g (lw_at lw_m3 55 rfl) rfl
theorem q651 : (Jvm.Cond.instanceMethod ({ cls := "java/lang/String", name := "isLatin1", desc := "()Z" } : Jvm.MethodName)) ∈ lw_all := lw_g (lw_at lw_m3 56 rfl) rfl
theorem q652 : (Jvm.Cond.selects "java/lang/String" ({ cls := "java/lang/String", name := "isLatin1", desc := "()Z" } : Jvm.MethodName) ({ cls := "java/lang/String", name := "isLatin1", desc := "()Z" } : Jvm.MethodName)) ∈ lw_all := lw_g (lw_at lw_m3 57 rfl) rfl
theorem q653 : (Jvm.Cond.code ({ cls := "java/lang/String", name := "isLatin1", desc := "()Z" } : Jvm.MethodName) prog_28_method_154_code (1 : Nat) (Option.some Jvm.ClassFile.FieldType.boolean)) ∈ lw_all := lw_g (lw_at lw_m3 58 rfl) rfl
theorem q654 : (Jvm.Cond.methodLink "java/lang/String" (628 : Nat) ({ cls := "java/lang/StringLatin1", name := "hashCode", desc := "([B)I" } : Jvm.MethodName)) ∈ lw_all := lw_g (lw_at lw_m3 59 rfl) rfl
theorem q695 : (Jvm.Cond.methodLink "java/lang/String" (632 : Nat) ({ cls := "java/lang/StringUTF16", name := "hashCode", desc := "([B)I" } : Jvm.MethodName)) ∈ lw_all := lw_g (lw_at lw_m3 100 rfl) rfl
theorem q701 : (Jvm.Cond.instanceMethod ({ cls := "java/lang/String", name := "equals", desc := "(Ljava/lang/Object;)Z" } : Jvm.MethodName)) ∈ lw_all := lw_g (lw_at lw_m3 106 rfl) rfl
theorem q702 : (Jvm.Cond.selects "java/lang/String" ({ cls := "java/lang/String", name := "equals", desc := "(Ljava/lang/Object;)Z" } : Jvm.MethodName) ({ cls := "java/lang/String", name := "equals", desc := "(Ljava/lang/Object;)Z" } : Jvm.MethodName)) ∈ lw_all := lw_g (lw_at lw_m3 107 rfl) rfl
theorem q703 : (Jvm.Cond.code ({ cls := "java/lang/String", name := "equals", desc := "(Ljava/lang/Object;)Z" } : Jvm.MethodName) prog_28_method_66_code (3 : Nat) (Option.some Jvm.ClassFile.FieldType.boolean)) ∈ lw_all := lw_g (lw_at lw_m3 108 rfl) rfl
theorem q704 : (Jvm.Cond.classLink "java/lang/String" (10 : Nat) "java/lang/String") ∈ lw_all := lw_g (lw_at lw_m3 109 rfl) rfl
theorem q705 : (Jvm.Cond.methodLink "java/lang/String" (541 : Nat) ({ cls := "java/lang/StringLatin1", name := "equals", desc := "([B[B)Z" } : Jvm.MethodName)) ∈ lw_all := lw_g (lw_at lw_m3 110 rfl) rfl
theorem q1741 : (Jvm.Cond.instanceMethod ({ cls := "java/lang/String", name := "length", desc := "()I" } : Jvm.MethodName)) ∈ lw_all := lw_g (lw_at lw_m7 186 rfl) rfl
theorem q1742 : (Jvm.Cond.selects "java/lang/String" ({ cls := "java/lang/String", name := "length", desc := "()I" } : Jvm.MethodName) ({ cls := "java/lang/String", name := "length", desc := "()I" } : Jvm.MethodName)) ∈ lw_all := lw_g (lw_at lw_m7 187 rfl) rfl
theorem q1743 : (Jvm.Cond.code ({ cls := "java/lang/String", name := "length", desc := "()I" } : Jvm.MethodName) prog_28_method_54_code (1 : Nat) (Option.some Jvm.ClassFile.FieldType.int)) ∈ lw_all := lw_g (lw_at lw_m7 188 rfl) rfl
theorem q1744 : (Jvm.Cond.methodLink "java/lang/String" (335 : Nat) ({ cls := "java/lang/String", name := "coder", desc := "()B" } : Jvm.MethodName)) ∈ lw_all := lw_g (lw_at lw_m7 189 rfl) rfl
theorem q1745 : (Jvm.Cond.instanceMethod ({ cls := "java/lang/String", name := "coder", desc := "()B" } : Jvm.MethodName)) ∈ lw_all := lw_g (lw_at lw_m7 190 rfl) rfl
theorem q1746 : (Jvm.Cond.selects "java/lang/String" ({ cls := "java/lang/String", name := "coder", desc := "()B" } : Jvm.MethodName) ({ cls := "java/lang/String", name := "coder", desc := "()B" } : Jvm.MethodName)) ∈ lw_all := lw_g (lw_at lw_m7 191 rfl) rfl
theorem q1747 : (Jvm.Cond.code ({ cls := "java/lang/String", name := "coder", desc := "()B" } : Jvm.MethodName) prog_28_method_152_code (1 : Nat) (Option.some Jvm.ClassFile.FieldType.byte)) ∈ lw_all := lw_g (lw_at lw_m7 192 rfl) rfl
theorem q1749 : (Jvm.Cond.instanceMethod ({ cls := "java/lang/String", name := "charAt", desc := "(I)C" } : Jvm.MethodName)) ∈ lw_all := lw_g (lw_at lw_m7 194 rfl) rfl
theorem q1750 : (Jvm.Cond.selects "java/lang/String" ({ cls := "java/lang/String", name := "charAt", desc := "(I)C" } : Jvm.MethodName) ({ cls := "java/lang/String", name := "charAt", desc := "(I)C" } : Jvm.MethodName)) ∈ lw_all := lw_g (lw_at lw_m7 195 rfl) rfl
theorem q1751 : (Jvm.Cond.code ({ cls := "java/lang/String", name := "charAt", desc := "(I)C" } : Jvm.MethodName) prog_28_method_56_code (2 : Nat) (Option.some Jvm.ClassFile.FieldType.char)) ∈ lw_all := lw_g (lw_at lw_m7 196 rfl) rfl
theorem q1752 : (Jvm.Cond.methodLink "java/lang/String" (495 : Nat) ({ cls := "java/lang/StringLatin1", name := "charAt", desc := "([BI)C" } : Jvm.MethodName)) ∈ lw_all := lw_g (lw_at lw_m7 197 rfl) rfl
theorem q1756 : (Jvm.Cond.static ({ cls := "java/lang/String", name := "checkIndex", desc := "(II)V" } : Jvm.MethodName)) ∈ lw_all := lw_g (lw_at lw_m7 201 rfl) rfl
theorem q1757 : (Jvm.Cond.code ({ cls := "java/lang/String", name := "checkIndex", desc := "(II)V" } : Jvm.MethodName) prog_28_method_155_code (2 : Nat) (Option.none : Option Jvm.ClassFile.FieldType)) ∈ lw_all := lw_g (lw_at lw_m7 202 rfl) rfl
theorem q1758 : (Jvm.Cond.methodLink "java/lang/String" (1059 : Nat) ({ cls := "jdk/internal/util/Preconditions", name := "checkIndex", desc := "(IILjava/util/function/BiFunction;)I" } : Jvm.MethodName)) ∈ lw_all := lw_g (lw_at lw_m7 203 rfl) rfl
theorem q1761 : (Jvm.Cond.methodLink "java/lang/String" (498 : Nat) ({ cls := "java/lang/StringUTF16", name := "charAt", desc := "([BI)C" } : Jvm.MethodName)) ∈ lw_all := lw_g (lw_at lw_m7 206 rfl) rfl
theorem q2260 : (Jvm.Cond.castable "java/lang/String" "java/lang/Object") ∈ lw_tbl := lw_at lw_m9 225 rfl
theorem in_J3 : ∀ w ∈ wsJ30, w ∈ lw_all := lw_in wsJ30 [621, 623, 625, 627] (by decide +kernel) (by decide +kernel)
/-! jdk/internal/util/Preconditions -/
set_option maxRecDepth 100000
def RJ4 : String := "jdk/internal/util/Preconditions"
abbrev cJ4_checkFromIndexSize : ByteArray := prog_39_method_13_code
def yJ4_checkFromIndexSize : MethodName := ⟨RJ4, "checkFromIndexSize", "(IIILjava/util/function/BiFunction;)I"⟩
def dkwJ4_checkFromIndexSize_1 : List UInt8 := [172]
abbrev dktJ4_checkFromIndexSize_1 : List UInt8 := dkwJ4_checkFromIndexSize_1 ++ []
def dkwJ4_checkFromIndexSize_0 : List UInt8 := [28, 26, 128, 27, 128, 155, 0, 10, 27, 28, 26, 100, 164, 0, 11, 45, 26, 27, 28, 184, 0, 103, 191, 26]
abbrev dktJ4_checkFromIndexSize_0 : List UInt8 := dkwJ4_checkFromIndexSize_0 ++ dktJ4_checkFromIndexSize_1
theorem dksJ4_checkFromIndexSize_0 : cJ4_checkFromIndexSize.data.toList.drop 0 = dktJ4_checkFromIndexSize_0 := by decide +kernel
theorem dksJ4_checkFromIndexSize_1 : cJ4_checkFromIndexSize.data.toList.drop 24 = dktJ4_checkFromIndexSize_1 := dk_seg dksJ4_checkFromIndexSize_0 24 rfl rfl
theorem dJ4_checkFromIndexSize_0 : decode cJ4_checkFromIndexSize 0 = .ok (.iload_n 2, 1) := dk_28 (dk_at dksJ4_checkFromIndexSize_0 0 rfl rfl)
theorem dJ4_checkFromIndexSize_1 : decode cJ4_checkFromIndexSize 1 = .ok (.iload_n 0, 1) := dk_26 (dk_at dksJ4_checkFromIndexSize_0 1 rfl rfl)
theorem dJ4_checkFromIndexSize_2 : decode cJ4_checkFromIndexSize 2 = .ok (.ior, 1) := dk_128 (dk_at dksJ4_checkFromIndexSize_0 2 rfl rfl)
theorem dJ4_checkFromIndexSize_3 : decode cJ4_checkFromIndexSize 3 = .ok (.iload_n 1, 1) := dk_27 (dk_at dksJ4_checkFromIndexSize_0 3 rfl rfl)
theorem dJ4_checkFromIndexSize_4 : decode cJ4_checkFromIndexSize 4 = .ok (.ior, 1) := dk_128 (dk_at dksJ4_checkFromIndexSize_0 4 rfl rfl)
theorem dJ4_checkFromIndexSize_5 : decode cJ4_checkFromIndexSize 5 = .ok (.ifCond .lt 10, 3) := dk_155 0 10 (dk_at dksJ4_checkFromIndexSize_0 5 rfl rfl)
theorem dJ4_checkFromIndexSize_8 : decode cJ4_checkFromIndexSize 8 = .ok (.iload_n 1, 1) := dk_27 (dk_at dksJ4_checkFromIndexSize_0 8 rfl rfl)
theorem dJ4_checkFromIndexSize_9 : decode cJ4_checkFromIndexSize 9 = .ok (.iload_n 2, 1) := dk_28 (dk_at dksJ4_checkFromIndexSize_0 9 rfl rfl)
theorem dJ4_checkFromIndexSize_10 : decode cJ4_checkFromIndexSize 10 = .ok (.iload_n 0, 1) := dk_26 (dk_at dksJ4_checkFromIndexSize_0 10 rfl rfl)
theorem dJ4_checkFromIndexSize_11 : decode cJ4_checkFromIndexSize 11 = .ok (.isub, 1) := dk_100 (dk_at dksJ4_checkFromIndexSize_0 11 rfl rfl)
theorem dJ4_checkFromIndexSize_12 : decode cJ4_checkFromIndexSize 12 = .ok (.if_icmp .le 11, 3) := dk_164 0 11 (dk_at dksJ4_checkFromIndexSize_0 12 rfl rfl)
theorem dJ4_checkFromIndexSize_15 : decode cJ4_checkFromIndexSize 15 = .ok (.aload_n 3, 1) := dk_45 (dk_at dksJ4_checkFromIndexSize_0 15 rfl rfl)
theorem dJ4_checkFromIndexSize_16 : decode cJ4_checkFromIndexSize 16 = .ok (.iload_n 0, 1) := dk_26 (dk_at dksJ4_checkFromIndexSize_0 16 rfl rfl)
theorem dJ4_checkFromIndexSize_17 : decode cJ4_checkFromIndexSize 17 = .ok (.iload_n 1, 1) := dk_27 (dk_at dksJ4_checkFromIndexSize_0 17 rfl rfl)
theorem dJ4_checkFromIndexSize_18 : decode cJ4_checkFromIndexSize 18 = .ok (.iload_n 2, 1) := dk_28 (dk_at dksJ4_checkFromIndexSize_0 18 rfl rfl)
theorem dJ4_checkFromIndexSize_19 : decode cJ4_checkFromIndexSize 19 = .ok (.invokestatic 103, 3) := dk_184 0 103 (dk_at dksJ4_checkFromIndexSize_0 19 rfl rfl)
theorem dJ4_checkFromIndexSize_22 : decode cJ4_checkFromIndexSize 22 = .ok (.athrow, 1) := dk_191 (dk_at dksJ4_checkFromIndexSize_0 22 rfl rfl)
theorem dJ4_checkFromIndexSize_23 : decode cJ4_checkFromIndexSize 23 = .ok (.iload_n 0, 1) := dk_26 (dk_at dksJ4_checkFromIndexSize_0 23 rfl rfl)
theorem dJ4_checkFromIndexSize_24 : decode cJ4_checkFromIndexSize 24 = .ok (.ireturn, 1) := dk_172 (dk_at dksJ4_checkFromIndexSize_1 0 rfl rfl)
abbrev cJ4_checkIndex : ByteArray := prog_39_method_11_code
def yJ4_checkIndex : MethodName := ⟨RJ4, "checkIndex", "(IILjava/util/function/BiFunction;)I"⟩
def dkwJ4_checkIndex_0 : List UInt8 := [26, 155, 0, 8, 26, 27, 161, 0, 10, 44, 26, 27, 184, 0, 95, 191, 26, 172]
abbrev dktJ4_checkIndex_0 : List UInt8 := dkwJ4_checkIndex_0 ++ []
theorem dksJ4_checkIndex_0 : cJ4_checkIndex.data.toList.drop 0 = dktJ4_checkIndex_0 := by decide +kernel
theorem dJ4_checkIndex_0 : decode cJ4_checkIndex 0 = .ok (.iload_n 0, 1) := dk_26 (dk_at dksJ4_checkIndex_0 0 rfl rfl)
theorem dJ4_checkIndex_1 : decode cJ4_checkIndex 1 = .ok (.ifCond .lt 8, 3) := dk_155 0 8 (dk_at dksJ4_checkIndex_0 1 rfl rfl)
theorem dJ4_checkIndex_4 : decode cJ4_checkIndex 4 = .ok (.iload_n 0, 1) := dk_26 (dk_at dksJ4_checkIndex_0 4 rfl rfl)
theorem dJ4_checkIndex_5 : decode cJ4_checkIndex 5 = .ok (.iload_n 1, 1) := dk_27 (dk_at dksJ4_checkIndex_0 5 rfl rfl)
theorem dJ4_checkIndex_6 : decode cJ4_checkIndex 6 = .ok (.if_icmp .lt 10, 3) := dk_161 0 10 (dk_at dksJ4_checkIndex_0 6 rfl rfl)
theorem dJ4_checkIndex_9 : decode cJ4_checkIndex 9 = .ok (.aload_n 2, 1) := dk_44 (dk_at dksJ4_checkIndex_0 9 rfl rfl)
theorem dJ4_checkIndex_10 : decode cJ4_checkIndex 10 = .ok (.iload_n 0, 1) := dk_26 (dk_at dksJ4_checkIndex_0 10 rfl rfl)
theorem dJ4_checkIndex_11 : decode cJ4_checkIndex 11 = .ok (.iload_n 1, 1) := dk_27 (dk_at dksJ4_checkIndex_0 11 rfl rfl)
theorem dJ4_checkIndex_12 : decode cJ4_checkIndex 12 = .ok (.invokestatic 95, 3) := dk_184 0 95 (dk_at dksJ4_checkIndex_0 12 rfl rfl)
theorem dJ4_checkIndex_15 : decode cJ4_checkIndex 15 = .ok (.athrow, 1) := dk_191 (dk_at dksJ4_checkIndex_0 15 rfl rfl)
theorem dJ4_checkIndex_16 : decode cJ4_checkIndex 16 = .ok (.iload_n 0, 1) := dk_26 (dk_at dksJ4_checkIndex_0 16 rfl rfl)
theorem dJ4_checkIndex_17 : decode cJ4_checkIndex 17 = .ok (.ireturn, 1) := dk_172 (dk_at dksJ4_checkIndex_0 17 rfl rfl)
theorem q128 : (Jvm.Cond.initialized "jdk/internal/util/Preconditions") ∈ lw_all := lw_g (lw_at lw_m1 13 rfl) rfl
theorem q564 : (Jvm.Cond.laysStatic "jdk/internal/util/Preconditions" "SIOOBE_FORMATTER" "Ljava/util/function/BiFunction;") ∈ lw_tbl := lw_at lw_m2 209 rfl
theorem q566 : (Jvm.Cond.static ({ cls := "jdk/internal/util/Preconditions", name := "checkFromIndexSize", desc := "(IIILjava/util/function/BiFunction;)I" } : Jvm.MethodName)) ∈ lw_all := lw_g (lw_at lw_m2 211 rfl) rfl
theorem q567 : (Jvm.Cond.code ({ cls := "jdk/internal/util/Preconditions", name := "checkFromIndexSize", desc := "(IIILjava/util/function/BiFunction;)I" } : Jvm.MethodName) prog_39_method_13_code (4 : Nat) (Option.some Jvm.ClassFile.FieldType.int)) ∈ lw_all := lw_g (lw_at lw_m2 212 rfl) rfl
theorem q1759 : (Jvm.Cond.static ({ cls := "jdk/internal/util/Preconditions", name := "checkIndex", desc := "(IILjava/util/function/BiFunction;)I" } : Jvm.MethodName)) ∈ lw_all := lw_g (lw_at lw_m7 204 rfl) rfl
theorem q1760 : (Jvm.Cond.code ({ cls := "jdk/internal/util/Preconditions", name := "checkIndex", desc := "(IILjava/util/function/BiFunction;)I" } : Jvm.MethodName) prog_39_method_11_code (3 : Nat) (Option.some Jvm.ClassFile.FieldType.int)) ∈ lw_all := lw_g (lw_at lw_m7 205 rfl) rfl
/-! java/lang/StringUTF16 -/
set_option maxRecDepth 100000
def RJ5 : String := "java/lang/StringUTF16"
abbrev cJ5_compress : ByteArray := prog_30_method_16_code
def yJ5_compress : MethodName := ⟨RJ5, "compress", "([CII)[B"⟩
def dkwJ5_compress_2 : List UInt8 := [184, 0, 123, 28, 159, 0, 6, 25, 5, 176, 45, 176]
abbrev dktJ5_compress_2 : List UInt8 := dkwJ5_compress_2 ++ []
def dkwJ5_compress_1 : List UInt8 := [184, 0, 119, 58, 5, 25, 5, 21, 4, 184, 0, 71, 17, 0, 255, 163, 0, 16, 25, 5, 3, 45, 3, 28]
abbrev dktJ5_compress_1 : List UInt8 := dkwJ5_compress_1 ++ dktJ5_compress_2
def dkwJ5_compress_0 : List UInt8 := [28, 188, 8, 78, 42, 27, 45, 3, 28, 184, 0, 115, 54, 4, 21, 4, 28, 159, 0, 40, 42, 27, 28]
abbrev dktJ5_compress_0 : List UInt8 := dkwJ5_compress_0 ++ dktJ5_compress_1
theorem dksJ5_compress_0 : cJ5_compress.data.toList.drop 0 = dktJ5_compress_0 := by decide +kernel
theorem dksJ5_compress_1 : cJ5_compress.data.toList.drop 23 = dktJ5_compress_1 := dk_seg dksJ5_compress_0 23 rfl rfl
theorem dksJ5_compress_2 : cJ5_compress.data.toList.drop 47 = dktJ5_compress_2 := dk_seg dksJ5_compress_1 24 rfl rfl
theorem dJ5_compress_0 : decode cJ5_compress 0 = .ok (.iload_n 2, 1) := dk_28 (dk_at dksJ5_compress_0 0 rfl rfl)
theorem dJ5_compress_1 : decode cJ5_compress 1 = .ok (.newarray .byte, 2) := dk_188_8 (dk_at dksJ5_compress_0 1 rfl rfl)
theorem dJ5_compress_3 : decode cJ5_compress 3 = .ok (.astore_n 3, 1) := dk_78 (dk_at dksJ5_compress_0 3 rfl rfl)
theorem dJ5_compress_4 : decode cJ5_compress 4 = .ok (.aload_n 0, 1) := dk_42 (dk_at dksJ5_compress_0 4 rfl rfl)
theorem dJ5_compress_5 : decode cJ5_compress 5 = .ok (.iload_n 1, 1) := dk_27 (dk_at dksJ5_compress_0 5 rfl rfl)
theorem dJ5_compress_6 : decode cJ5_compress 6 = .ok (.aload_n 3, 1) := dk_45 (dk_at dksJ5_compress_0 6 rfl rfl)
theorem dJ5_compress_7 : decode cJ5_compress 7 = .ok (.iconst 0, 1) := dk_3 (dk_at dksJ5_compress_0 7 rfl rfl)
theorem dJ5_compress_8 : decode cJ5_compress 8 = .ok (.iload_n 2, 1) := dk_28 (dk_at dksJ5_compress_0 8 rfl rfl)
theorem dJ5_compress_9 : decode cJ5_compress 9 = .ok (.invokestatic 115, 3) := dk_184 0 115 (dk_at dksJ5_compress_0 9 rfl rfl)
theorem dJ5_compress_12 : decode cJ5_compress 12 = .ok (.istore 4, 2) := dk_54 4 (dk_at dksJ5_compress_0 12 rfl rfl)
theorem dJ5_compress_14 : decode cJ5_compress 14 = .ok (.iload 4, 2) := dk_21 4 (dk_at dksJ5_compress_0 14 rfl rfl)
theorem dJ5_compress_16 : decode cJ5_compress 16 = .ok (.iload_n 2, 1) := dk_28 (dk_at dksJ5_compress_0 16 rfl rfl)
theorem dJ5_compress_17 : decode cJ5_compress 17 = .ok (.if_icmp .eq 40, 3) := dk_159 0 40 (dk_at dksJ5_compress_0 17 rfl rfl)
theorem dJ5_compress_20 : decode cJ5_compress 20 = .ok (.aload_n 0, 1) := dk_42 (dk_at dksJ5_compress_0 20 rfl rfl)
theorem dJ5_compress_21 : decode cJ5_compress 21 = .ok (.iload_n 1, 1) := dk_27 (dk_at dksJ5_compress_0 21 rfl rfl)
theorem dJ5_compress_22 : decode cJ5_compress 22 = .ok (.iload_n 2, 1) := dk_28 (dk_at dksJ5_compress_0 22 rfl rfl)
theorem dJ5_compress_23 : decode cJ5_compress 23 = .ok (.invokestatic 119, 3) := dk_184 0 119 (dk_at dksJ5_compress_1 0 rfl rfl)
theorem dJ5_compress_26 : decode cJ5_compress 26 = .ok (.astore 5, 2) := dk_58 5 (dk_at dksJ5_compress_1 3 rfl rfl)
theorem dJ5_compress_28 : decode cJ5_compress 28 = .ok (.aload 5, 2) := dk_25 5 (dk_at dksJ5_compress_1 5 rfl rfl)
theorem dJ5_compress_30 : decode cJ5_compress 30 = .ok (.iload 4, 2) := dk_21 4 (dk_at dksJ5_compress_1 7 rfl rfl)
theorem dJ5_compress_32 : decode cJ5_compress 32 = .ok (.invokestatic 71, 3) := dk_184 0 71 (dk_at dksJ5_compress_1 9 rfl rfl)
theorem dJ5_compress_35 : decode cJ5_compress 35 = .ok (.sipush 255, 3) := dk_17 0 255 (dk_at dksJ5_compress_1 12 rfl rfl)
theorem dJ5_compress_38 : decode cJ5_compress 38 = .ok (.if_icmp .gt 16, 3) := dk_163 0 16 (dk_at dksJ5_compress_1 15 rfl rfl)
theorem dJ5_compress_41 : decode cJ5_compress 41 = .ok (.aload 5, 2) := dk_25 5 (dk_at dksJ5_compress_1 18 rfl rfl)
theorem dJ5_compress_43 : decode cJ5_compress 43 = .ok (.iconst 0, 1) := dk_3 (dk_at dksJ5_compress_1 20 rfl rfl)
theorem dJ5_compress_44 : decode cJ5_compress 44 = .ok (.aload_n 3, 1) := dk_45 (dk_at dksJ5_compress_1 21 rfl rfl)
theorem dJ5_compress_45 : decode cJ5_compress 45 = .ok (.iconst 0, 1) := dk_3 (dk_at dksJ5_compress_1 22 rfl rfl)
theorem dJ5_compress_46 : decode cJ5_compress 46 = .ok (.iload_n 2, 1) := dk_28 (dk_at dksJ5_compress_1 23 rfl rfl)
theorem dJ5_compress_47 : decode cJ5_compress 47 = .ok (.invokestatic 123, 3) := dk_184 0 123 (dk_at dksJ5_compress_2 0 rfl rfl)
theorem dJ5_compress_50 : decode cJ5_compress 50 = .ok (.iload_n 2, 1) := dk_28 (dk_at dksJ5_compress_2 3 rfl rfl)
theorem dJ5_compress_51 : decode cJ5_compress 51 = .ok (.if_icmp .eq 6, 3) := dk_159 0 6 (dk_at dksJ5_compress_2 4 rfl rfl)
theorem dJ5_compress_54 : decode cJ5_compress 54 = .ok (.aload 5, 2) := dk_25 5 (dk_at dksJ5_compress_2 7 rfl rfl)
theorem dJ5_compress_56 : decode cJ5_compress 56 = .ok (.areturn, 1) := dk_176 (dk_at dksJ5_compress_2 9 rfl rfl)
theorem dJ5_compress_57 : decode cJ5_compress 57 = .ok (.aload_n 3, 1) := dk_45 (dk_at dksJ5_compress_2 10 rfl rfl)
theorem dJ5_compress_58 : decode cJ5_compress 58 = .ok (.areturn, 1) := dk_176 (dk_at dksJ5_compress_2 11 rfl rfl)
abbrev cJ5_compress_2 : ByteArray := prog_30_method_21_code
def yJ5_compress_2 : MethodName := ⟨RJ5, "compress", "([CI[BII)I"⟩
def dkwJ5_compress_2_1 : List UInt8 := [21, 5, 172, 44, 29, 21, 6, 145, 84, 132, 1, 1, 132, 3, 1, 132, 5, 1, 167, 255, 218, 21, 4, 172]
abbrev dktJ5_compress_2_1 : List UInt8 := dkwJ5_compress_2_1 ++ []
def dkwJ5_compress_2_0 : List UInt8 := [3, 54, 5, 21, 5, 21, 4, 162, 0, 37, 42, 27, 52, 54, 6, 21, 6, 17, 0, 255, 164, 0, 6]
abbrev dktJ5_compress_2_0 : List UInt8 := dkwJ5_compress_2_0 ++ dktJ5_compress_2_1
theorem dksJ5_compress_2_0 : cJ5_compress_2.data.toList.drop 0 = dktJ5_compress_2_0 := by decide +kernel
theorem dksJ5_compress_2_1 : cJ5_compress_2.data.toList.drop 23 = dktJ5_compress_2_1 := dk_seg dksJ5_compress_2_0 23 rfl rfl
theorem dJ5_compress_2_0 : decode cJ5_compress_2 0 = .ok (.iconst 0, 1) := dk_3 (dk_at dksJ5_compress_2_0 0 rfl rfl)
theorem dJ5_compress_2_1 : decode cJ5_compress_2 1 = .ok (.istore 5, 2) := dk_54 5 (dk_at dksJ5_compress_2_0 1 rfl rfl)
theorem dJ5_compress_2_3 : decode cJ5_compress_2 3 = .ok (.iload 5, 2) := dk_21 5 (dk_at dksJ5_compress_2_0 3 rfl rfl)
theorem dJ5_compress_2_5 : decode cJ5_compress_2 5 = .ok (.iload 4, 2) := dk_21 4 (dk_at dksJ5_compress_2_0 5 rfl rfl)
theorem dJ5_compress_2_7 : decode cJ5_compress_2 7 = .ok (.if_icmp .ge 37, 3) := dk_162 0 37 (dk_at dksJ5_compress_2_0 7 rfl rfl)
theorem dJ5_compress_2_10 : decode cJ5_compress_2 10 = .ok (.aload_n 0, 1) := dk_42 (dk_at dksJ5_compress_2_0 10 rfl rfl)
theorem dJ5_compress_2_11 : decode cJ5_compress_2 11 = .ok (.iload_n 1, 1) := dk_27 (dk_at dksJ5_compress_2_0 11 rfl rfl)
theorem dJ5_compress_2_12 : decode cJ5_compress_2 12 = .ok (.caload, 1) := dk_52 (dk_at dksJ5_compress_2_0 12 rfl rfl)
theorem dJ5_compress_2_13 : decode cJ5_compress_2 13 = .ok (.istore 6, 2) := dk_54 6 (dk_at dksJ5_compress_2_0 13 rfl rfl)
theorem dJ5_compress_2_15 : decode cJ5_compress_2 15 = .ok (.iload 6, 2) := dk_21 6 (dk_at dksJ5_compress_2_0 15 rfl rfl)
theorem dJ5_compress_2_17 : decode cJ5_compress_2 17 = .ok (.sipush 255, 3) := dk_17 0 255 (dk_at dksJ5_compress_2_0 17 rfl rfl)
theorem dJ5_compress_2_20 : decode cJ5_compress_2 20 = .ok (.if_icmp .le 6, 3) := dk_164 0 6 (dk_at dksJ5_compress_2_0 20 rfl rfl)
theorem dJ5_compress_2_23 : decode cJ5_compress_2 23 = .ok (.iload 5, 2) := dk_21 5 (dk_at dksJ5_compress_2_1 0 rfl rfl)
theorem dJ5_compress_2_25 : decode cJ5_compress_2 25 = .ok (.ireturn, 1) := dk_172 (dk_at dksJ5_compress_2_1 2 rfl rfl)
theorem dJ5_compress_2_26 : decode cJ5_compress_2 26 = .ok (.aload_n 2, 1) := dk_44 (dk_at dksJ5_compress_2_1 3 rfl rfl)
theorem dJ5_compress_2_27 : decode cJ5_compress_2 27 = .ok (.iload_n 3, 1) := dk_29 (dk_at dksJ5_compress_2_1 4 rfl rfl)
theorem dJ5_compress_2_28 : decode cJ5_compress_2 28 = .ok (.iload 6, 2) := dk_21 6 (dk_at dksJ5_compress_2_1 5 rfl rfl)
theorem dJ5_compress_2_30 : decode cJ5_compress_2 30 = .ok (.i2b, 1) := dk_145 (dk_at dksJ5_compress_2_1 7 rfl rfl)
theorem dJ5_compress_2_31 : decode cJ5_compress_2 31 = .ok (.bastore, 1) := dk_84 (dk_at dksJ5_compress_2_1 8 rfl rfl)
theorem dJ5_compress_2_32 : decode cJ5_compress_2 32 = .ok (.iinc 1 1, 3) := dk_132 1 1 (dk_at dksJ5_compress_2_1 9 rfl rfl)
theorem dJ5_compress_2_35 : decode cJ5_compress_2 35 = .ok (.iinc 3 1, 3) := dk_132 3 1 (dk_at dksJ5_compress_2_1 12 rfl rfl)
theorem dJ5_compress_2_38 : decode cJ5_compress_2 38 = .ok (.iinc 5 1, 3) := dk_132 5 1 (dk_at dksJ5_compress_2_1 15 rfl rfl)
theorem dJ5_compress_2_41 : decode cJ5_compress_2 41 = .ok (.goto (-38), 3) := dk_167 255 218 (dk_at dksJ5_compress_2_1 18 rfl rfl)
theorem dJ5_compress_2_44 : decode cJ5_compress_2 44 = .ok (.iload 4, 2) := dk_21 4 (dk_at dksJ5_compress_2_1 21 rfl rfl)
theorem dJ5_compress_2_46 : decode cJ5_compress_2 46 = .ok (.ireturn, 1) := dk_172 (dk_at dksJ5_compress_2_1 23 rfl rfl)
abbrev cJ5_toBytes : ByteArray := prog_30_method_14_code
def yJ5_toBytes : MethodName := ⟨RJ5, "toBytes", "([CII)[B"⟩
def dkwJ5_toBytes_1 : List UInt8 := [132, 1, 1, 132, 4, 1, 167, 255, 235, 45, 176]
abbrev dktJ5_toBytes_1 : List UInt8 := dkwJ5_toBytes_1 ++ []
def dkwJ5_toBytes_0 : List UInt8 := [28, 184, 0, 107, 78, 3, 54, 4, 21, 4, 28, 162, 0, 21, 45, 21, 4, 42, 27, 52, 184, 0, 111]
abbrev dktJ5_toBytes_0 : List UInt8 := dkwJ5_toBytes_0 ++ dktJ5_toBytes_1
theorem dksJ5_toBytes_0 : cJ5_toBytes.data.toList.drop 0 = dktJ5_toBytes_0 := by decide +kernel
theorem dksJ5_toBytes_1 : cJ5_toBytes.data.toList.drop 23 = dktJ5_toBytes_1 := dk_seg dksJ5_toBytes_0 23 rfl rfl
theorem dJ5_toBytes_0 : decode cJ5_toBytes 0 = .ok (.iload_n 2, 1) := dk_28 (dk_at dksJ5_toBytes_0 0 rfl rfl)
theorem dJ5_toBytes_1 : decode cJ5_toBytes 1 = .ok (.invokestatic 107, 3) := dk_184 0 107 (dk_at dksJ5_toBytes_0 1 rfl rfl)
theorem dJ5_toBytes_4 : decode cJ5_toBytes 4 = .ok (.astore_n 3, 1) := dk_78 (dk_at dksJ5_toBytes_0 4 rfl rfl)
theorem dJ5_toBytes_5 : decode cJ5_toBytes 5 = .ok (.iconst 0, 1) := dk_3 (dk_at dksJ5_toBytes_0 5 rfl rfl)
theorem dJ5_toBytes_6 : decode cJ5_toBytes 6 = .ok (.istore 4, 2) := dk_54 4 (dk_at dksJ5_toBytes_0 6 rfl rfl)
theorem dJ5_toBytes_8 : decode cJ5_toBytes 8 = .ok (.iload 4, 2) := dk_21 4 (dk_at dksJ5_toBytes_0 8 rfl rfl)
theorem dJ5_toBytes_10 : decode cJ5_toBytes 10 = .ok (.iload_n 2, 1) := dk_28 (dk_at dksJ5_toBytes_0 10 rfl rfl)
theorem dJ5_toBytes_11 : decode cJ5_toBytes 11 = .ok (.if_icmp .ge 21, 3) := dk_162 0 21 (dk_at dksJ5_toBytes_0 11 rfl rfl)
theorem dJ5_toBytes_14 : decode cJ5_toBytes 14 = .ok (.aload_n 3, 1) := dk_45 (dk_at dksJ5_toBytes_0 14 rfl rfl)
theorem dJ5_toBytes_15 : decode cJ5_toBytes 15 = .ok (.iload 4, 2) := dk_21 4 (dk_at dksJ5_toBytes_0 15 rfl rfl)
theorem dJ5_toBytes_17 : decode cJ5_toBytes 17 = .ok (.aload_n 0, 1) := dk_42 (dk_at dksJ5_toBytes_0 17 rfl rfl)
theorem dJ5_toBytes_18 : decode cJ5_toBytes 18 = .ok (.iload_n 1, 1) := dk_27 (dk_at dksJ5_toBytes_0 18 rfl rfl)
theorem dJ5_toBytes_19 : decode cJ5_toBytes 19 = .ok (.caload, 1) := dk_52 (dk_at dksJ5_toBytes_0 19 rfl rfl)
theorem dJ5_toBytes_20 : decode cJ5_toBytes 20 = .ok (.invokestatic 111, 3) := dk_184 0 111 (dk_at dksJ5_toBytes_0 20 rfl rfl)
theorem dJ5_toBytes_23 : decode cJ5_toBytes 23 = .ok (.iinc 1 1, 3) := dk_132 1 1 (dk_at dksJ5_toBytes_1 0 rfl rfl)
theorem dJ5_toBytes_26 : decode cJ5_toBytes 26 = .ok (.iinc 4 1, 3) := dk_132 4 1 (dk_at dksJ5_toBytes_1 3 rfl rfl)
theorem dJ5_toBytes_29 : decode cJ5_toBytes 29 = .ok (.goto (-21), 3) := dk_167 255 235 (dk_at dksJ5_toBytes_1 6 rfl rfl)
theorem dJ5_toBytes_32 : decode cJ5_toBytes 32 = .ok (.aload_n 3, 1) := dk_45 (dk_at dksJ5_toBytes_1 9 rfl rfl)
theorem dJ5_toBytes_33 : decode cJ5_toBytes 33 = .ok (.areturn, 1) := dk_176 (dk_at dksJ5_toBytes_1 10 rfl rfl)
abbrev cJ5_newBytesFor : ByteArray := prog_30_method_2_code
def yJ5_newBytesFor : MethodName := ⟨RJ5, "newBytesFor", "(I)[B"⟩
def dkwJ5_newBytesFor_0 : List UInt8 := [26, 184, 0, 11, 188, 8, 176]
abbrev dktJ5_newBytesFor_0 : List UInt8 := dkwJ5_newBytesFor_0 ++ []
theorem dksJ5_newBytesFor_0 : cJ5_newBytesFor.data.toList.drop 0 = dktJ5_newBytesFor_0 := by decide +kernel
theorem dJ5_newBytesFor_0 : decode cJ5_newBytesFor 0 = .ok (.iload_n 0, 1) := dk_26 (dk_at dksJ5_newBytesFor_0 0 rfl rfl)
theorem dJ5_newBytesFor_1 : decode cJ5_newBytesFor 1 = .ok (.invokestatic 11, 3) := dk_184 0 11 (dk_at dksJ5_newBytesFor_0 1 rfl rfl)
theorem dJ5_newBytesFor_4 : decode cJ5_newBytesFor 4 = .ok (.newarray .byte, 2) := dk_188_8 (dk_at dksJ5_newBytesFor_0 4 rfl rfl)
theorem dJ5_newBytesFor_6 : decode cJ5_newBytesFor 6 = .ok (.areturn, 1) := dk_176 (dk_at dksJ5_newBytesFor_0 6 rfl rfl)
abbrev cJ5_newBytesLength : ByteArray := prog_30_method_3_code
def yJ5_newBytesLength : MethodName := ⟨RJ5, "newBytesLength", "(I)I"⟩
def dkwJ5_newBytesLength_2 : List UInt8 := [182, 0, 32, 182, 0, 37, 183, 0, 41, 191, 26, 4, 120, 172]
abbrev dktJ5_newBytesLength_2 : List UInt8 := dkwJ5_newBytesLength_2 ++ []
def dkwJ5_newBytesLength_1 : List UInt8 := [187, 0, 23, 89, 183, 0, 25, 18, 26, 182, 0, 28, 26, 182, 0, 32, 18, 35, 182, 0, 28, 18, 20]
abbrev dktJ5_newBytesLength_1 : List UInt8 := dkwJ5_newBytesLength_1 ++ dktJ5_newBytesLength_2
def dkwJ5_newBytesLength_0 : List UInt8 := [26, 156, 0, 11, 187, 0, 17, 89, 183, 0, 19, 191, 26, 18, 20, 161, 0, 40, 187, 0, 21, 89]
abbrev dktJ5_newBytesLength_0 : List UInt8 := dkwJ5_newBytesLength_0 ++ dktJ5_newBytesLength_1
theorem dksJ5_newBytesLength_0 : cJ5_newBytesLength.data.toList.drop 0 = dktJ5_newBytesLength_0 := by decide +kernel
theorem dksJ5_newBytesLength_1 : cJ5_newBytesLength.data.toList.drop 22 = dktJ5_newBytesLength_1 := dk_seg dksJ5_newBytesLength_0 22 rfl rfl
theorem dksJ5_newBytesLength_2 : cJ5_newBytesLength.data.toList.drop 45 = dktJ5_newBytesLength_2 := dk_seg dksJ5_newBytesLength_1 23 rfl rfl
theorem dJ5_newBytesLength_0 : decode cJ5_newBytesLength 0 = .ok (.iload_n 0, 1) := dk_26 (dk_at dksJ5_newBytesLength_0 0 rfl rfl)
theorem dJ5_newBytesLength_1 : decode cJ5_newBytesLength 1 = .ok (.ifCond .ge 11, 3) := dk_156 0 11 (dk_at dksJ5_newBytesLength_0 1 rfl rfl)
theorem dJ5_newBytesLength_4 : decode cJ5_newBytesLength 4 = .ok (.new 17, 3) := dk_187 0 17 (dk_at dksJ5_newBytesLength_0 4 rfl rfl)
theorem dJ5_newBytesLength_7 : decode cJ5_newBytesLength 7 = .ok (.dup, 1) := dk_89 (dk_at dksJ5_newBytesLength_0 7 rfl rfl)
theorem dJ5_newBytesLength_8 : decode cJ5_newBytesLength 8 = .ok (.invokespecial 19, 3) := dk_183 0 19 (dk_at dksJ5_newBytesLength_0 8 rfl rfl)
theorem dJ5_newBytesLength_11 : decode cJ5_newBytesLength 11 = .ok (.athrow, 1) := dk_191 (dk_at dksJ5_newBytesLength_0 11 rfl rfl)
theorem dJ5_newBytesLength_12 : decode cJ5_newBytesLength 12 = .ok (.iload_n 0, 1) := dk_26 (dk_at dksJ5_newBytesLength_0 12 rfl rfl)
theorem dJ5_newBytesLength_13 : decode cJ5_newBytesLength 13 = .ok (.ldc 20, 2) := dk_18 20 (dk_at dksJ5_newBytesLength_0 13 rfl rfl)
theorem dJ5_newBytesLength_15 : decode cJ5_newBytesLength 15 = .ok (.if_icmp .lt 40, 3) := dk_161 0 40 (dk_at dksJ5_newBytesLength_0 15 rfl rfl)
theorem dJ5_newBytesLength_18 : decode cJ5_newBytesLength 18 = .ok (.new 21, 3) := dk_187 0 21 (dk_at dksJ5_newBytesLength_0 18 rfl rfl)
theorem dJ5_newBytesLength_21 : decode cJ5_newBytesLength 21 = .ok (.dup, 1) := dk_89 (dk_at dksJ5_newBytesLength_0 21 rfl rfl)
theorem dJ5_newBytesLength_22 : decode cJ5_newBytesLength 22 = .ok (.new 23, 3) := dk_187 0 23 (dk_at dksJ5_newBytesLength_1 0 rfl rfl)
theorem dJ5_newBytesLength_25 : decode cJ5_newBytesLength 25 = .ok (.dup, 1) := dk_89 (dk_at dksJ5_newBytesLength_1 3 rfl rfl)
theorem dJ5_newBytesLength_26 : decode cJ5_newBytesLength 26 = .ok (.invokespecial 25, 3) := dk_183 0 25 (dk_at dksJ5_newBytesLength_1 4 rfl rfl)
theorem dJ5_newBytesLength_29 : decode cJ5_newBytesLength 29 = .ok (.ldc 26, 2) := dk_18 26 (dk_at dksJ5_newBytesLength_1 7 rfl rfl)
theorem dJ5_newBytesLength_31 : decode cJ5_newBytesLength 31 = .ok (.invokevirtual 28, 3) := dk_182 0 28 (dk_at dksJ5_newBytesLength_1 9 rfl rfl)
theorem dJ5_newBytesLength_34 : decode cJ5_newBytesLength 34 = .ok (.iload_n 0, 1) := dk_26 (dk_at dksJ5_newBytesLength_1 12 rfl rfl)
theorem dJ5_newBytesLength_35 : decode cJ5_newBytesLength 35 = .ok (.invokevirtual 32, 3) := dk_182 0 32 (dk_at dksJ5_newBytesLength_1 13 rfl rfl)
theorem dJ5_newBytesLength_38 : decode cJ5_newBytesLength 38 = .ok (.ldc 35, 2) := dk_18 35 (dk_at dksJ5_newBytesLength_1 16 rfl rfl)
theorem dJ5_newBytesLength_40 : decode cJ5_newBytesLength 40 = .ok (.invokevirtual 28, 3) := dk_182 0 28 (dk_at dksJ5_newBytesLength_1 18 rfl rfl)
theorem dJ5_newBytesLength_43 : decode cJ5_newBytesLength 43 = .ok (.ldc 20, 2) := dk_18 20 (dk_at dksJ5_newBytesLength_1 21 rfl rfl)
theorem dJ5_newBytesLength_45 : decode cJ5_newBytesLength 45 = .ok (.invokevirtual 32, 3) := dk_182 0 32 (dk_at dksJ5_newBytesLength_2 0 rfl rfl)
theorem dJ5_newBytesLength_48 : decode cJ5_newBytesLength 48 = .ok (.invokevirtual 37, 3) := dk_182 0 37 (dk_at dksJ5_newBytesLength_2 3 rfl rfl)
theorem dJ5_newBytesLength_51 : decode cJ5_newBytesLength 51 = .ok (.invokespecial 41, 3) := dk_183 0 41 (dk_at dksJ5_newBytesLength_2 6 rfl rfl)
theorem dJ5_newBytesLength_54 : decode cJ5_newBytesLength 54 = .ok (.athrow, 1) := dk_191 (dk_at dksJ5_newBytesLength_2 9 rfl rfl)
theorem dJ5_newBytesLength_55 : decode cJ5_newBytesLength 55 = .ok (.iload_n 0, 1) := dk_26 (dk_at dksJ5_newBytesLength_2 10 rfl rfl)
theorem dJ5_newBytesLength_56 : decode cJ5_newBytesLength 56 = .ok (.iconst 1, 1) := dk_4 (dk_at dksJ5_newBytesLength_2 11 rfl rfl)
theorem dJ5_newBytesLength_57 : decode cJ5_newBytesLength 57 = .ok (.ishl, 1) := dk_120 (dk_at dksJ5_newBytesLength_2 12 rfl rfl)
theorem dJ5_newBytesLength_58 : decode cJ5_newBytesLength 58 = .ok (.ireturn, 1) := dk_172 (dk_at dksJ5_newBytesLength_2 13 rfl rfl)
abbrev cJ5_putChar : ByteArray := prog_30_method_4_code
def yJ5_putChar : MethodName := ⟨RJ5, "putChar", "([BII)V"⟩
def dkwJ5_putChar_2 : List UInt8 := [178, 0, 63, 122, 145, 84, 177]
abbrev dktJ5_putChar_2 : List UInt8 := dkwJ5_putChar_2 ++ []
def dkwJ5_putChar_1 : List UInt8 := [183, 0, 56, 191, 27, 4, 120, 60, 42, 27, 132, 1, 1, 28, 178, 0, 59, 122, 145, 84, 42, 27, 28]
abbrev dktJ5_putChar_1 : List UInt8 := dkwJ5_putChar_1 ++ dktJ5_putChar_2
def dkwJ5_putChar_0 : List UInt8 := [178, 0, 44, 154, 0, 25, 27, 155, 0, 11, 27, 42, 184, 0, 48, 161, 0, 13, 187, 0, 52, 89, 18, 54]
abbrev dktJ5_putChar_0 : List UInt8 := dkwJ5_putChar_0 ++ dktJ5_putChar_1
theorem dksJ5_putChar_0 : cJ5_putChar.data.toList.drop 0 = dktJ5_putChar_0 := by decide +kernel
theorem dksJ5_putChar_1 : cJ5_putChar.data.toList.drop 24 = dktJ5_putChar_1 := dk_seg dksJ5_putChar_0 24 rfl rfl
theorem dksJ5_putChar_2 : cJ5_putChar.data.toList.drop 47 = dktJ5_putChar_2 := dk_seg dksJ5_putChar_1 23 rfl rfl
theorem dJ5_putChar_0 : decode cJ5_putChar 0 = .ok (.getstatic 44, 3) := dk_178 0 44 (dk_at dksJ5_putChar_0 0 rfl rfl)
theorem dJ5_putChar_3 : decode cJ5_putChar 3 = .ok (.ifCond .ne 25, 3) := dk_154 0 25 (dk_at dksJ5_putChar_0 3 rfl rfl)
theorem dJ5_putChar_6 : decode cJ5_putChar 6 = .ok (.iload_n 1, 1) := dk_27 (dk_at dksJ5_putChar_0 6 rfl rfl)
theorem dJ5_putChar_7 : decode cJ5_putChar 7 = .ok (.ifCond .lt 11, 3) := dk_155 0 11 (dk_at dksJ5_putChar_0 7 rfl rfl)
theorem dJ5_putChar_10 : decode cJ5_putChar 10 = .ok (.iload_n 1, 1) := dk_27 (dk_at dksJ5_putChar_0 10 rfl rfl)
theorem dJ5_putChar_11 : decode cJ5_putChar 11 = .ok (.aload_n 0, 1) := dk_42 (dk_at dksJ5_putChar_0 11 rfl rfl)
theorem dJ5_putChar_12 : decode cJ5_putChar 12 = .ok (.invokestatic 48, 3) := dk_184 0 48 (dk_at dksJ5_putChar_0 12 rfl rfl)
theorem dJ5_putChar_15 : decode cJ5_putChar 15 = .ok (.if_icmp .lt 13, 3) := dk_161 0 13 (dk_at dksJ5_putChar_0 15 rfl rfl)
theorem dJ5_putChar_18 : decode cJ5_putChar 18 = .ok (.new 52, 3) := dk_187 0 52 (dk_at dksJ5_putChar_0 18 rfl rfl)
theorem dJ5_putChar_21 : decode cJ5_putChar 21 = .ok (.dup, 1) := dk_89 (dk_at dksJ5_putChar_0 21 rfl rfl)
theorem dJ5_putChar_22 : decode cJ5_putChar 22 = .ok (.ldc 54, 2) := dk_18 54 (dk_at dksJ5_putChar_0 22 rfl rfl)
theorem dJ5_putChar_24 : decode cJ5_putChar 24 = .ok (.invokespecial 56, 3) := dk_183 0 56 (dk_at dksJ5_putChar_1 0 rfl rfl)
theorem dJ5_putChar_27 : decode cJ5_putChar 27 = .ok (.athrow, 1) := dk_191 (dk_at dksJ5_putChar_1 3 rfl rfl)
theorem dJ5_putChar_28 : decode cJ5_putChar 28 = .ok (.iload_n 1, 1) := dk_27 (dk_at dksJ5_putChar_1 4 rfl rfl)
theorem dJ5_putChar_29 : decode cJ5_putChar 29 = .ok (.iconst 1, 1) := dk_4 (dk_at dksJ5_putChar_1 5 rfl rfl)
theorem dJ5_putChar_30 : decode cJ5_putChar 30 = .ok (.ishl, 1) := dk_120 (dk_at dksJ5_putChar_1 6 rfl rfl)
theorem dJ5_putChar_31 : decode cJ5_putChar 31 = .ok (.istore_n 1, 1) := dk_60 (dk_at dksJ5_putChar_1 7 rfl rfl)
theorem dJ5_putChar_32 : decode cJ5_putChar 32 = .ok (.aload_n 0, 1) := dk_42 (dk_at dksJ5_putChar_1 8 rfl rfl)
theorem dJ5_putChar_33 : decode cJ5_putChar 33 = .ok (.iload_n 1, 1) := dk_27 (dk_at dksJ5_putChar_1 9 rfl rfl)
theorem dJ5_putChar_34 : decode cJ5_putChar 34 = .ok (.iinc 1 1, 3) := dk_132 1 1 (dk_at dksJ5_putChar_1 10 rfl rfl)
theorem dJ5_putChar_37 : decode cJ5_putChar 37 = .ok (.iload_n 2, 1) := dk_28 (dk_at dksJ5_putChar_1 13 rfl rfl)
theorem dJ5_putChar_38 : decode cJ5_putChar 38 = .ok (.getstatic 59, 3) := dk_178 0 59 (dk_at dksJ5_putChar_1 14 rfl rfl)
theorem dJ5_putChar_41 : decode cJ5_putChar 41 = .ok (.ishr, 1) := dk_122 (dk_at dksJ5_putChar_1 17 rfl rfl)
theorem dJ5_putChar_42 : decode cJ5_putChar 42 = .ok (.i2b, 1) := dk_145 (dk_at dksJ5_putChar_1 18 rfl rfl)
theorem dJ5_putChar_43 : decode cJ5_putChar 43 = .ok (.bastore, 1) := dk_84 (dk_at dksJ5_putChar_1 19 rfl rfl)
theorem dJ5_putChar_44 : decode cJ5_putChar 44 = .ok (.aload_n 0, 1) := dk_42 (dk_at dksJ5_putChar_1 20 rfl rfl)
theorem dJ5_putChar_45 : decode cJ5_putChar 45 = .ok (.iload_n 1, 1) := dk_27 (dk_at dksJ5_putChar_1 21 rfl rfl)
theorem dJ5_putChar_46 : decode cJ5_putChar 46 = .ok (.iload_n 2, 1) := dk_28 (dk_at dksJ5_putChar_1 22 rfl rfl)
theorem dJ5_putChar_47 : decode cJ5_putChar 47 = .ok (.getstatic 63, 3) := dk_178 0 63 (dk_at dksJ5_putChar_2 0 rfl rfl)
theorem dJ5_putChar_50 : decode cJ5_putChar 50 = .ok (.ishr, 1) := dk_122 (dk_at dksJ5_putChar_2 3 rfl rfl)
theorem dJ5_putChar_51 : decode cJ5_putChar 51 = .ok (.i2b, 1) := dk_145 (dk_at dksJ5_putChar_2 4 rfl rfl)
theorem dJ5_putChar_52 : decode cJ5_putChar 52 = .ok (.bastore, 1) := dk_84 (dk_at dksJ5_putChar_2 5 rfl rfl)
theorem dJ5_putChar_53 : decode cJ5_putChar 53 = .ok (.return_, 1) := dk_177 (dk_at dksJ5_putChar_2 6 rfl rfl)
abbrev cJ5_length : ByteArray := prog_30_method_6_code
def yJ5_length : MethodName := ⟨RJ5, "length", "([B)I"⟩
def dkwJ5_length_0 : List UInt8 := [42, 190, 4, 122, 172]
abbrev dktJ5_length_0 : List UInt8 := dkwJ5_length_0 ++ []
theorem dksJ5_length_0 : cJ5_length.data.toList.drop 0 = dktJ5_length_0 := by decide +kernel
theorem dJ5_length_0 : decode cJ5_length 0 = .ok (.aload_n 0, 1) := dk_42 (dk_at dksJ5_length_0 0 rfl rfl)
theorem dJ5_length_1 : decode cJ5_length 1 = .ok (.arraylength, 1) := dk_190 (dk_at dksJ5_length_0 1 rfl rfl)
theorem dJ5_length_2 : decode cJ5_length 2 = .ok (.iconst 1, 1) := dk_4 (dk_at dksJ5_length_0 2 rfl rfl)
theorem dJ5_length_3 : decode cJ5_length 3 = .ok (.ishr, 1) := dk_122 (dk_at dksJ5_length_0 3 rfl rfl)
theorem dJ5_length_4 : decode cJ5_length 4 = .ok (.ireturn, 1) := dk_172 (dk_at dksJ5_length_0 4 rfl rfl)
abbrev cJ5_getChar : ByteArray := prog_30_method_5_code
def yJ5_getChar : MethodName := ⟨RJ5, "getChar", "([BI)C"⟩
def dkwJ5_getChar_2 : List UInt8 := [51, 17, 0, 255, 126, 178, 0, 63, 120, 128, 146, 172]
abbrev dktJ5_getChar_2 : List UInt8 := dkwJ5_getChar_2 ++ []
def dkwJ5_getChar_1 : List UInt8 := [183, 0, 56, 191, 27, 4, 120, 60, 42, 27, 132, 1, 1, 51, 17, 0, 255, 126, 178, 0, 59, 120, 42, 27]
abbrev dktJ5_getChar_1 : List UInt8 := dkwJ5_getChar_1 ++ dktJ5_getChar_2
def dkwJ5_getChar_0 : List UInt8 := [178, 0, 44, 154, 0, 25, 27, 155, 0, 11, 27, 42, 184, 0, 48, 161, 0, 13, 187, 0, 52, 89, 18, 54]
abbrev dktJ5_getChar_0 : List UInt8 := dkwJ5_getChar_0 ++ dktJ5_getChar_1
theorem dksJ5_getChar_0 : cJ5_getChar.data.toList.drop 0 = dktJ5_getChar_0 := by decide +kernel
theorem dksJ5_getChar_1 : cJ5_getChar.data.toList.drop 24 = dktJ5_getChar_1 := dk_seg dksJ5_getChar_0 24 rfl rfl
theorem dksJ5_getChar_2 : cJ5_getChar.data.toList.drop 48 = dktJ5_getChar_2 := dk_seg dksJ5_getChar_1 24 rfl rfl
theorem dJ5_getChar_0 : decode cJ5_getChar 0 = .ok (.getstatic 44, 3) := dk_178 0 44 (dk_at dksJ5_getChar_0 0 rfl rfl)
theorem dJ5_getChar_3 : decode cJ5_getChar 3 = .ok (.ifCond .ne 25, 3) := dk_154 0 25 (dk_at dksJ5_getChar_0 3 rfl rfl)
theorem dJ5_getChar_6 : decode cJ5_getChar 6 = .ok (.iload_n 1, 1) := dk_27 (dk_at dksJ5_getChar_0 6 rfl rfl)
theorem dJ5_getChar_7 : decode cJ5_getChar 7 = .ok (.ifCond .lt 11, 3) := dk_155 0 11 (dk_at dksJ5_getChar_0 7 rfl rfl)
theorem dJ5_getChar_10 : decode cJ5_getChar 10 = .ok (.iload_n 1, 1) := dk_27 (dk_at dksJ5_getChar_0 10 rfl rfl)
theorem dJ5_getChar_11 : decode cJ5_getChar 11 = .ok (.aload_n 0, 1) := dk_42 (dk_at dksJ5_getChar_0 11 rfl rfl)
theorem dJ5_getChar_12 : decode cJ5_getChar 12 = .ok (.invokestatic 48, 3) := dk_184 0 48 (dk_at dksJ5_getChar_0 12 rfl rfl)
theorem dJ5_getChar_15 : decode cJ5_getChar 15 = .ok (.if_icmp .lt 13, 3) := dk_161 0 13 (dk_at dksJ5_getChar_0 15 rfl rfl)
theorem dJ5_getChar_18 : decode cJ5_getChar 18 = .ok (.new 52, 3) := dk_187 0 52 (dk_at dksJ5_getChar_0 18 rfl rfl)
theorem dJ5_getChar_21 : decode cJ5_getChar 21 = .ok (.dup, 1) := dk_89 (dk_at dksJ5_getChar_0 21 rfl rfl)
theorem dJ5_getChar_22 : decode cJ5_getChar 22 = .ok (.ldc 54, 2) := dk_18 54 (dk_at dksJ5_getChar_0 22 rfl rfl)
theorem dJ5_getChar_24 : decode cJ5_getChar 24 = .ok (.invokespecial 56, 3) := dk_183 0 56 (dk_at dksJ5_getChar_1 0 rfl rfl)
theorem dJ5_getChar_27 : decode cJ5_getChar 27 = .ok (.athrow, 1) := dk_191 (dk_at dksJ5_getChar_1 3 rfl rfl)
theorem dJ5_getChar_28 : decode cJ5_getChar 28 = .ok (.iload_n 1, 1) := dk_27 (dk_at dksJ5_getChar_1 4 rfl rfl)
theorem dJ5_getChar_29 : decode cJ5_getChar 29 = .ok (.iconst 1, 1) := dk_4 (dk_at dksJ5_getChar_1 5 rfl rfl)
theorem dJ5_getChar_30 : decode cJ5_getChar 30 = .ok (.ishl, 1) := dk_120 (dk_at dksJ5_getChar_1 6 rfl rfl)
theorem dJ5_getChar_31 : decode cJ5_getChar 31 = .ok (.istore_n 1, 1) := dk_60 (dk_at dksJ5_getChar_1 7 rfl rfl)
theorem dJ5_getChar_32 : decode cJ5_getChar 32 = .ok (.aload_n 0, 1) := dk_42 (dk_at dksJ5_getChar_1 8 rfl rfl)
theorem dJ5_getChar_33 : decode cJ5_getChar 33 = .ok (.iload_n 1, 1) := dk_27 (dk_at dksJ5_getChar_1 9 rfl rfl)
theorem dJ5_getChar_34 : decode cJ5_getChar 34 = .ok (.iinc 1 1, 3) := dk_132 1 1 (dk_at dksJ5_getChar_1 10 rfl rfl)
theorem dJ5_getChar_37 : decode cJ5_getChar 37 = .ok (.baload, 1) := dk_51 (dk_at dksJ5_getChar_1 13 rfl rfl)
theorem dJ5_getChar_38 : decode cJ5_getChar 38 = .ok (.sipush 255, 3) := dk_17 0 255 (dk_at dksJ5_getChar_1 14 rfl rfl)
theorem dJ5_getChar_41 : decode cJ5_getChar 41 = .ok (.iand, 1) := dk_126 (dk_at dksJ5_getChar_1 17 rfl rfl)
theorem dJ5_getChar_42 : decode cJ5_getChar 42 = .ok (.getstatic 59, 3) := dk_178 0 59 (dk_at dksJ5_getChar_1 18 rfl rfl)
theorem dJ5_getChar_45 : decode cJ5_getChar 45 = .ok (.ishl, 1) := dk_120 (dk_at dksJ5_getChar_1 21 rfl rfl)
theorem dJ5_getChar_46 : decode cJ5_getChar 46 = .ok (.aload_n 0, 1) := dk_42 (dk_at dksJ5_getChar_1 22 rfl rfl)
theorem dJ5_getChar_47 : decode cJ5_getChar 47 = .ok (.iload_n 1, 1) := dk_27 (dk_at dksJ5_getChar_1 23 rfl rfl)
theorem dJ5_getChar_48 : decode cJ5_getChar 48 = .ok (.baload, 1) := dk_51 (dk_at dksJ5_getChar_2 0 rfl rfl)
theorem dJ5_getChar_49 : decode cJ5_getChar 49 = .ok (.sipush 255, 3) := dk_17 0 255 (dk_at dksJ5_getChar_2 1 rfl rfl)
theorem dJ5_getChar_52 : decode cJ5_getChar 52 = .ok (.iand, 1) := dk_126 (dk_at dksJ5_getChar_2 4 rfl rfl)
theorem dJ5_getChar_53 : decode cJ5_getChar 53 = .ok (.getstatic 63, 3) := dk_178 0 63 (dk_at dksJ5_getChar_2 5 rfl rfl)
theorem dJ5_getChar_56 : decode cJ5_getChar 56 = .ok (.ishl, 1) := dk_120 (dk_at dksJ5_getChar_2 8 rfl rfl)
theorem dJ5_getChar_57 : decode cJ5_getChar 57 = .ok (.ior, 1) := dk_128 (dk_at dksJ5_getChar_2 9 rfl rfl)
theorem dJ5_getChar_58 : decode cJ5_getChar 58 = .ok (.i2c, 1) := dk_146 (dk_at dksJ5_getChar_2 10 rfl rfl)
theorem dJ5_getChar_59 : decode cJ5_getChar 59 = .ok (.ireturn, 1) := dk_172 (dk_at dksJ5_getChar_2 11 rfl rfl)
abbrev cJ5_compress_3 : ByteArray := prog_30_method_22_code
def yJ5_compress_3 : MethodName := ⟨RJ5, "compress", "([BI[BII)I"⟩
def dkwJ5_compress_3_2 : List UInt8 := [132, 5, 1, 167, 255, 216, 21, 4, 172]
abbrev dktJ5_compress_3_2 : List UInt8 := dkwJ5_compress_3_2 ++ []
def dkwJ5_compress_3_1 : List UInt8 := [21, 6, 17, 0, 255, 164, 0, 6, 21, 5, 172, 44, 29, 21, 6, 145, 84, 132, 1, 1, 132, 3, 1]
abbrev dktJ5_compress_3_1 : List UInt8 := dkwJ5_compress_3_1 ++ dktJ5_compress_3_2
def dkwJ5_compress_3_0 : List UInt8 := [27, 21, 4, 42, 184, 0, 173, 3, 54, 5, 21, 5, 21, 4, 162, 0, 39, 42, 27, 184, 0, 71, 54, 6]
abbrev dktJ5_compress_3_0 : List UInt8 := dkwJ5_compress_3_0 ++ dktJ5_compress_3_1
theorem dksJ5_compress_3_0 : cJ5_compress_3.data.toList.drop 0 = dktJ5_compress_3_0 := by decide +kernel
theorem dksJ5_compress_3_1 : cJ5_compress_3.data.toList.drop 24 = dktJ5_compress_3_1 := dk_seg dksJ5_compress_3_0 24 rfl rfl
theorem dksJ5_compress_3_2 : cJ5_compress_3.data.toList.drop 47 = dktJ5_compress_3_2 := dk_seg dksJ5_compress_3_1 23 rfl rfl
theorem dJ5_compress_3_0 : decode cJ5_compress_3 0 = .ok (.iload_n 1, 1) := dk_27 (dk_at dksJ5_compress_3_0 0 rfl rfl)
theorem dJ5_compress_3_1 : decode cJ5_compress_3 1 = .ok (.iload 4, 2) := dk_21 4 (dk_at dksJ5_compress_3_0 1 rfl rfl)
theorem dJ5_compress_3_3 : decode cJ5_compress_3 3 = .ok (.aload_n 0, 1) := dk_42 (dk_at dksJ5_compress_3_0 3 rfl rfl)
theorem dJ5_compress_3_4 : decode cJ5_compress_3 4 = .ok (.invokestatic 173, 3) := dk_184 0 173 (dk_at dksJ5_compress_3_0 4 rfl rfl)
theorem dJ5_compress_3_7 : decode cJ5_compress_3 7 = .ok (.iconst 0, 1) := dk_3 (dk_at dksJ5_compress_3_0 7 rfl rfl)
theorem dJ5_compress_3_8 : decode cJ5_compress_3 8 = .ok (.istore 5, 2) := dk_54 5 (dk_at dksJ5_compress_3_0 8 rfl rfl)
theorem dJ5_compress_3_10 : decode cJ5_compress_3 10 = .ok (.iload 5, 2) := dk_21 5 (dk_at dksJ5_compress_3_0 10 rfl rfl)
theorem dJ5_compress_3_12 : decode cJ5_compress_3 12 = .ok (.iload 4, 2) := dk_21 4 (dk_at dksJ5_compress_3_0 12 rfl rfl)
theorem dJ5_compress_3_14 : decode cJ5_compress_3 14 = .ok (.if_icmp .ge 39, 3) := dk_162 0 39 (dk_at dksJ5_compress_3_0 14 rfl rfl)
theorem dJ5_compress_3_17 : decode cJ5_compress_3 17 = .ok (.aload_n 0, 1) := dk_42 (dk_at dksJ5_compress_3_0 17 rfl rfl)
theorem dJ5_compress_3_18 : decode cJ5_compress_3 18 = .ok (.iload_n 1, 1) := dk_27 (dk_at dksJ5_compress_3_0 18 rfl rfl)
theorem dJ5_compress_3_19 : decode cJ5_compress_3 19 = .ok (.invokestatic 71, 3) := dk_184 0 71 (dk_at dksJ5_compress_3_0 19 rfl rfl)
theorem dJ5_compress_3_22 : decode cJ5_compress_3 22 = .ok (.istore 6, 2) := dk_54 6 (dk_at dksJ5_compress_3_0 22 rfl rfl)
theorem dJ5_compress_3_24 : decode cJ5_compress_3 24 = .ok (.iload 6, 2) := dk_21 6 (dk_at dksJ5_compress_3_1 0 rfl rfl)
theorem dJ5_compress_3_26 : decode cJ5_compress_3 26 = .ok (.sipush 255, 3) := dk_17 0 255 (dk_at dksJ5_compress_3_1 2 rfl rfl)
theorem dJ5_compress_3_29 : decode cJ5_compress_3 29 = .ok (.if_icmp .le 6, 3) := dk_164 0 6 (dk_at dksJ5_compress_3_1 5 rfl rfl)
theorem dJ5_compress_3_32 : decode cJ5_compress_3 32 = .ok (.iload 5, 2) := dk_21 5 (dk_at dksJ5_compress_3_1 8 rfl rfl)
theorem dJ5_compress_3_34 : decode cJ5_compress_3 34 = .ok (.ireturn, 1) := dk_172 (dk_at dksJ5_compress_3_1 10 rfl rfl)
theorem dJ5_compress_3_35 : decode cJ5_compress_3 35 = .ok (.aload_n 2, 1) := dk_44 (dk_at dksJ5_compress_3_1 11 rfl rfl)
theorem dJ5_compress_3_36 : decode cJ5_compress_3 36 = .ok (.iload_n 3, 1) := dk_29 (dk_at dksJ5_compress_3_1 12 rfl rfl)
theorem dJ5_compress_3_37 : decode cJ5_compress_3 37 = .ok (.iload 6, 2) := dk_21 6 (dk_at dksJ5_compress_3_1 13 rfl rfl)
theorem dJ5_compress_3_39 : decode cJ5_compress_3 39 = .ok (.i2b, 1) := dk_145 (dk_at dksJ5_compress_3_1 15 rfl rfl)
theorem dJ5_compress_3_40 : decode cJ5_compress_3 40 = .ok (.bastore, 1) := dk_84 (dk_at dksJ5_compress_3_1 16 rfl rfl)
theorem dJ5_compress_3_41 : decode cJ5_compress_3 41 = .ok (.iinc 1 1, 3) := dk_132 1 1 (dk_at dksJ5_compress_3_1 17 rfl rfl)
theorem dJ5_compress_3_44 : decode cJ5_compress_3 44 = .ok (.iinc 3 1, 3) := dk_132 3 1 (dk_at dksJ5_compress_3_1 20 rfl rfl)
theorem dJ5_compress_3_47 : decode cJ5_compress_3 47 = .ok (.iinc 5 1, 3) := dk_132 5 1 (dk_at dksJ5_compress_3_2 0 rfl rfl)
theorem dJ5_compress_3_50 : decode cJ5_compress_3 50 = .ok (.goto (-40), 3) := dk_167 255 216 (dk_at dksJ5_compress_3_2 3 rfl rfl)
theorem dJ5_compress_3_53 : decode cJ5_compress_3 53 = .ok (.iload 4, 2) := dk_21 4 (dk_at dksJ5_compress_3_2 6 rfl rfl)
theorem dJ5_compress_3_55 : decode cJ5_compress_3 55 = .ok (.ireturn, 1) := dk_172 (dk_at dksJ5_compress_3_2 8 rfl rfl)
abbrev cJ5_checkBoundsOffCount : ByteArray := prog_30_method_94_code
def yJ5_checkBoundsOffCount : MethodName := ⟨RJ5, "checkBoundsOffCount", "(II[B)V"⟩
def dkwJ5_checkBoundsOffCount_0 : List UInt8 := [26, 27, 44, 184, 0, 48, 184, 1, 163, 87, 177]
abbrev dktJ5_checkBoundsOffCount_0 : List UInt8 := dkwJ5_checkBoundsOffCount_0 ++ []
theorem dksJ5_checkBoundsOffCount_0 : cJ5_checkBoundsOffCount.data.toList.drop 0 = dktJ5_checkBoundsOffCount_0 := by decide +kernel
theorem dJ5_checkBoundsOffCount_0 : decode cJ5_checkBoundsOffCount 0 = .ok (.iload_n 0, 1) := dk_26 (dk_at dksJ5_checkBoundsOffCount_0 0 rfl rfl)
theorem dJ5_checkBoundsOffCount_1 : decode cJ5_checkBoundsOffCount 1 = .ok (.iload_n 1, 1) := dk_27 (dk_at dksJ5_checkBoundsOffCount_0 1 rfl rfl)
theorem dJ5_checkBoundsOffCount_2 : decode cJ5_checkBoundsOffCount 2 = .ok (.aload_n 2, 1) := dk_44 (dk_at dksJ5_checkBoundsOffCount_0 2 rfl rfl)
theorem dJ5_checkBoundsOffCount_3 : decode cJ5_checkBoundsOffCount 3 = .ok (.invokestatic 48, 3) := dk_184 0 48 (dk_at dksJ5_checkBoundsOffCount_0 3 rfl rfl)
theorem dJ5_checkBoundsOffCount_6 : decode cJ5_checkBoundsOffCount 6 = .ok (.invokestatic 419, 3) := dk_184 1 163 (dk_at dksJ5_checkBoundsOffCount_0 6 rfl rfl)
theorem dJ5_checkBoundsOffCount_9 : decode cJ5_checkBoundsOffCount 9 = .ok (.pop, 1) := dk_87 (dk_at dksJ5_checkBoundsOffCount_0 9 rfl rfl)
theorem dJ5_checkBoundsOffCount_10 : decode cJ5_checkBoundsOffCount 10 = .ok (.return_, 1) := dk_177 (dk_at dksJ5_checkBoundsOffCount_0 10 rfl rfl)
abbrev cJ5_coderFromArrayLen : ByteArray := prog_30_method_15_code
def yJ5_coderFromArrayLen : MethodName := ⟨RJ5, "coderFromArrayLen", "([BI)B"⟩
def dkwJ5_coderFromArrayLen_0 : List UInt8 := [27, 42, 190, 100, 16, 31, 124, 145, 172]
abbrev dktJ5_coderFromArrayLen_0 : List UInt8 := dkwJ5_coderFromArrayLen_0 ++ []
theorem dksJ5_coderFromArrayLen_0 : cJ5_coderFromArrayLen.data.toList.drop 0 = dktJ5_coderFromArrayLen_0 := by decide +kernel
theorem dJ5_coderFromArrayLen_0 : decode cJ5_coderFromArrayLen 0 = .ok (.iload_n 1, 1) := dk_27 (dk_at dksJ5_coderFromArrayLen_0 0 rfl rfl)
theorem dJ5_coderFromArrayLen_1 : decode cJ5_coderFromArrayLen 1 = .ok (.aload_n 0, 1) := dk_42 (dk_at dksJ5_coderFromArrayLen_0 1 rfl rfl)
theorem dJ5_coderFromArrayLen_2 : decode cJ5_coderFromArrayLen 2 = .ok (.arraylength, 1) := dk_190 (dk_at dksJ5_coderFromArrayLen_0 2 rfl rfl)
theorem dJ5_coderFromArrayLen_3 : decode cJ5_coderFromArrayLen 3 = .ok (.isub, 1) := dk_100 (dk_at dksJ5_coderFromArrayLen_0 3 rfl rfl)
theorem dJ5_coderFromArrayLen_4 : decode cJ5_coderFromArrayLen 4 = .ok (.bipush 31, 2) := dk_16 31 (dk_at dksJ5_coderFromArrayLen_0 4 rfl rfl)
theorem dJ5_coderFromArrayLen_6 : decode cJ5_coderFromArrayLen 6 = .ok (.iushr, 1) := dk_124 (dk_at dksJ5_coderFromArrayLen_0 6 rfl rfl)
theorem dJ5_coderFromArrayLen_7 : decode cJ5_coderFromArrayLen 7 = .ok (.i2b, 1) := dk_145 (dk_at dksJ5_coderFromArrayLen_0 7 rfl rfl)
theorem dJ5_coderFromArrayLen_8 : decode cJ5_coderFromArrayLen 8 = .ok (.ireturn, 1) := dk_172 (dk_at dksJ5_coderFromArrayLen_0 8 rfl rfl)
abbrev cJ5_hashCode : ByteArray := prog_30_method_39_code
def yJ5_hashCode : MethodName := ⟨RJ5, "hashCode", "([B)I"⟩
def dkwJ5_hashCode_2 : List UInt8 := [3, 167, 0, 22, 42, 3, 184, 0, 71, 167, 0, 14, 42, 3, 42, 190, 4, 122, 3, 8, 184, 0, 220, 172]
abbrev dktJ5_hashCode_2 : List UInt8 := dkwJ5_hashCode_2 ++ []
def dkwJ5_hashCode_1 : List UInt8 := [171, 0, 0, 0, 0, 38, 0, 0, 0, 2, 0, 0, 0, 0, 0, 0, 0, 26, 0, 0, 0, 2, 0, 0, 0, 30]
abbrev dktJ5_hashCode_1 : List UInt8 := dkwJ5_hashCode_1 ++ dktJ5_hashCode_2
def dkwJ5_hashCode_0 : List UInt8 := [42, 190]
abbrev dktJ5_hashCode_0 : List UInt8 := dkwJ5_hashCode_0 ++ dktJ5_hashCode_1
theorem dksJ5_hashCode_0 : cJ5_hashCode.data.toList.drop 0 = dktJ5_hashCode_0 := by decide +kernel
theorem dksJ5_hashCode_1 : cJ5_hashCode.data.toList.drop 2 = dktJ5_hashCode_1 := dk_seg dksJ5_hashCode_0 2 rfl rfl
theorem dksJ5_hashCode_2 : cJ5_hashCode.data.toList.drop 28 = dktJ5_hashCode_2 := dk_seg dksJ5_hashCode_1 26 rfl rfl
theorem dJ5_hashCode_0 : decode cJ5_hashCode 0 = .ok (.aload_n 0, 1) := dk_42 (dk_at dksJ5_hashCode_0 0 rfl rfl)
theorem dJ5_hashCode_1 : decode cJ5_hashCode 1 = .ok (.arraylength, 1) := dk_190 (dk_at dksJ5_hashCode_0 1 rfl rfl)
theorem dJ5_hashCode_2 : decode cJ5_hashCode 2 = .ok (.lookupswitch 38 #[(0, 26), (2, 30)], 26) := by decide +kernel
theorem dJ5_hashCode_28 : decode cJ5_hashCode 28 = .ok (.iconst 0, 1) := dk_3 (dk_at dksJ5_hashCode_2 0 rfl rfl)
theorem dJ5_hashCode_29 : decode cJ5_hashCode 29 = .ok (.goto 22, 3) := dk_167 0 22 (dk_at dksJ5_hashCode_2 1 rfl rfl)
theorem dJ5_hashCode_32 : decode cJ5_hashCode 32 = .ok (.aload_n 0, 1) := dk_42 (dk_at dksJ5_hashCode_2 4 rfl rfl)
theorem dJ5_hashCode_33 : decode cJ5_hashCode 33 = .ok (.iconst 0, 1) := dk_3 (dk_at dksJ5_hashCode_2 5 rfl rfl)
theorem dJ5_hashCode_34 : decode cJ5_hashCode 34 = .ok (.invokestatic 71, 3) := dk_184 0 71 (dk_at dksJ5_hashCode_2 6 rfl rfl)
theorem dJ5_hashCode_37 : decode cJ5_hashCode 37 = .ok (.goto 14, 3) := dk_167 0 14 (dk_at dksJ5_hashCode_2 9 rfl rfl)
theorem dJ5_hashCode_40 : decode cJ5_hashCode 40 = .ok (.aload_n 0, 1) := dk_42 (dk_at dksJ5_hashCode_2 12 rfl rfl)
theorem dJ5_hashCode_41 : decode cJ5_hashCode 41 = .ok (.iconst 0, 1) := dk_3 (dk_at dksJ5_hashCode_2 13 rfl rfl)
theorem dJ5_hashCode_42 : decode cJ5_hashCode 42 = .ok (.aload_n 0, 1) := dk_42 (dk_at dksJ5_hashCode_2 14 rfl rfl)
theorem dJ5_hashCode_43 : decode cJ5_hashCode 43 = .ok (.arraylength, 1) := dk_190 (dk_at dksJ5_hashCode_2 15 rfl rfl)
theorem dJ5_hashCode_44 : decode cJ5_hashCode 44 = .ok (.iconst 1, 1) := dk_4 (dk_at dksJ5_hashCode_2 16 rfl rfl)
theorem dJ5_hashCode_45 : decode cJ5_hashCode 45 = .ok (.ishr, 1) := dk_122 (dk_at dksJ5_hashCode_2 17 rfl rfl)
theorem dJ5_hashCode_46 : decode cJ5_hashCode 46 = .ok (.iconst 0, 1) := dk_3 (dk_at dksJ5_hashCode_2 18 rfl rfl)
theorem dJ5_hashCode_47 : decode cJ5_hashCode 47 = .ok (.iconst 5, 1) := dk_8 (dk_at dksJ5_hashCode_2 19 rfl rfl)
theorem dJ5_hashCode_48 : decode cJ5_hashCode 48 = .ok (.invokestatic 220, 3) := dk_184 0 220 (dk_at dksJ5_hashCode_2 20 rfl rfl)
theorem dJ5_hashCode_51 : decode cJ5_hashCode 51 = .ok (.ireturn, 1) := dk_172 (dk_at dksJ5_hashCode_2 23 rfl rfl)
abbrev cJ5_charAt : ByteArray := prog_30_method_83_code
def yJ5_charAt : MethodName := ⟨RJ5, "charAt", "([BI)C"⟩
def dkwJ5_charAt_0 : List UInt8 := [27, 42, 184, 0, 67, 42, 27, 184, 0, 71, 172]
abbrev dktJ5_charAt_0 : List UInt8 := dkwJ5_charAt_0 ++ []
theorem dksJ5_charAt_0 : cJ5_charAt.data.toList.drop 0 = dktJ5_charAt_0 := by decide +kernel
theorem dJ5_charAt_0 : decode cJ5_charAt 0 = .ok (.iload_n 1, 1) := dk_27 (dk_at dksJ5_charAt_0 0 rfl rfl)
theorem dJ5_charAt_1 : decode cJ5_charAt 1 = .ok (.aload_n 0, 1) := dk_42 (dk_at dksJ5_charAt_0 1 rfl rfl)
theorem dJ5_charAt_2 : decode cJ5_charAt 2 = .ok (.invokestatic 67, 3) := dk_184 0 67 (dk_at dksJ5_charAt_0 2 rfl rfl)
theorem dJ5_charAt_5 : decode cJ5_charAt 5 = .ok (.aload_n 0, 1) := dk_42 (dk_at dksJ5_charAt_0 5 rfl rfl)
theorem dJ5_charAt_6 : decode cJ5_charAt 6 = .ok (.iload_n 1, 1) := dk_27 (dk_at dksJ5_charAt_0 6 rfl rfl)
theorem dJ5_charAt_7 : decode cJ5_charAt 7 = .ok (.invokestatic 71, 3) := dk_184 0 71 (dk_at dksJ5_charAt_0 7 rfl rfl)
theorem dJ5_charAt_10 : decode cJ5_charAt 10 = .ok (.ireturn, 1) := dk_172 (dk_at dksJ5_charAt_0 10 rfl rfl)
abbrev cJ5_checkIndex : ByteArray := prog_30_method_91_code
def yJ5_checkIndex : MethodName := ⟨RJ5, "checkIndex", "(I[B)V"⟩
def dkwJ5_checkIndex_0 : List UInt8 := [26, 43, 184, 0, 48, 184, 1, 158, 177]
abbrev dktJ5_checkIndex_0 : List UInt8 := dkwJ5_checkIndex_0 ++ []
theorem dksJ5_checkIndex_0 : cJ5_checkIndex.data.toList.drop 0 = dktJ5_checkIndex_0 := by decide +kernel
theorem dJ5_checkIndex_0 : decode cJ5_checkIndex 0 = .ok (.iload_n 0, 1) := dk_26 (dk_at dksJ5_checkIndex_0 0 rfl rfl)
theorem dJ5_checkIndex_1 : decode cJ5_checkIndex 1 = .ok (.aload_n 1, 1) := dk_43 (dk_at dksJ5_checkIndex_0 1 rfl rfl)
theorem dJ5_checkIndex_2 : decode cJ5_checkIndex 2 = .ok (.invokestatic 48, 3) := dk_184 0 48 (dk_at dksJ5_checkIndex_0 2 rfl rfl)
theorem dJ5_checkIndex_5 : decode cJ5_checkIndex 5 = .ok (.invokestatic 414, 3) := dk_184 1 158 (dk_at dksJ5_checkIndex_0 5 rfl rfl)
theorem dJ5_checkIndex_8 : decode cJ5_checkIndex 8 = .ok (.return_, 1) := dk_177 (dk_at dksJ5_checkIndex_0 8 rfl rfl)
theorem q129 : (Jvm.Cond.initialized "java/lang/StringUTF16") ∈ lw_all := lw_g (lw_at lw_m1 14 rfl) rfl
theorem q576 : (Jvm.Cond.static ({ cls := "java/lang/StringUTF16", name := "compress", desc := "([CII)[B" } : Jvm.MethodName)) ∈ lw_all := lw_g (lw_at lw_m2 221 rfl) rfl
theorem q577 : (Jvm.Cond.code ({ cls := "java/lang/StringUTF16", name := "compress", desc := "([CII)[B" } : Jvm.MethodName) prog_30_method_16_code (6 : Nat) (Option.some (Jvm.ClassFile.FieldType.array Jvm.ClassFile.FieldType.byte))) ∈ lw_all := lw_g (lw_at lw_m2 222 rfl) rfl
theorem q578 : (Jvm.Cond.methodLink "java/lang/StringUTF16" (115 : Nat) ({ cls := "java/lang/StringUTF16", name := "compress", desc := "([CI[BII)I" } : Jvm.MethodName)) ∈ lw_all := lw_g (lw_at lw_m2 223 rfl) rfl
theorem q579 : (Jvm.Cond.static ({ cls := "java/lang/StringUTF16", name := "compress", desc := "([CI[BII)I" } : Jvm.MethodName)) ∈ lw_all := lw_g (lw_at lw_m2 224 rfl) rfl
theorem q580 : (Jvm.Cond.code ({ cls := "java/lang/StringUTF16", name := "compress", desc := "([CI[BII)I" } : Jvm.MethodName) prog_30_method_21_code (7 : Nat) (Option.some Jvm.ClassFile.FieldType.int)) ∈ lw_all := lw_g (lw_at lw_m2 225 rfl) rfl
theorem q581 : (Jvm.Cond.methodLink "java/lang/StringUTF16" (119 : Nat) ({ cls := "java/lang/StringUTF16", name := "toBytes", desc := "([CII)[B" } : Jvm.MethodName)) ∈ lw_all := lw_g (lw_at lw_m2 226 rfl) rfl
theorem q582 : (Jvm.Cond.static ({ cls := "java/lang/StringUTF16", name := "toBytes", desc := "([CII)[B" } : Jvm.MethodName)) ∈ lw_all := lw_g (lw_at lw_m2 227 rfl) rfl
theorem q583 : (Jvm.Cond.code ({ cls := "java/lang/StringUTF16", name := "toBytes", desc := "([CII)[B" } : Jvm.MethodName) prog_30_method_14_code (5 : Nat) (Option.some (Jvm.ClassFile.FieldType.array Jvm.ClassFile.FieldType.byte))) ∈ lw_all := lw_g (lw_at lw_m2 228 rfl) rfl
theorem q584 : (Jvm.Cond.methodLink "java/lang/StringUTF16" (107 : Nat) ({ cls := "java/lang/StringUTF16", name := "newBytesFor", desc := "(I)[B" } : Jvm.MethodName)) ∈ lw_all := lw_g (lw_at lw_m2 229 rfl) rfl
theorem q585 : (Jvm.Cond.static ({ cls := "java/lang/StringUTF16", name := "newBytesFor", desc := "(I)[B" } : Jvm.MethodName)) ∈ lw_all := lw_g (lw_at lw_m2 230 rfl) rfl
theorem q586 : (Jvm.Cond.code ({ cls := "java/lang/StringUTF16", name := "newBytesFor", desc := "(I)[B" } : Jvm.MethodName) prog_30_method_2_code (1 : Nat) (Option.some (Jvm.ClassFile.FieldType.array Jvm.ClassFile.FieldType.byte))) ∈ lw_all := lw_g (lw_at lw_m2 231 rfl) rfl
theorem q587 : (Jvm.Cond.methodLink "java/lang/StringUTF16" (11 : Nat) ({ cls := "java/lang/StringUTF16", name := "newBytesLength", desc := "(I)I" } : Jvm.MethodName)) ∈ lw_all := lw_g (lw_at lw_m2 232 rfl) rfl
theorem q588 : (Jvm.Cond.static ({ cls := "java/lang/StringUTF16", name := "newBytesLength", desc := "(I)I" } : Jvm.MethodName)) ∈ lw_all := lw_g (lw_at lw_m2 233 rfl) rfl
theorem q589 : (Jvm.Cond.code ({ cls := "java/lang/StringUTF16", name := "newBytesLength", desc := "(I)I" } : Jvm.MethodName) prog_30_method_3_code (1 : Nat) (Option.some Jvm.ClassFile.FieldType.int)) ∈ lw_all := lw_g (lw_at lw_m2 234 rfl) rfl
theorem q590 : (Jvm.Cond.constant "java/lang/StringUTF16" (20 : Nat) (1073741823 : Int32)) ∈ lw_all := lw_g (lw_at lw_m2 235 rfl) rfl
theorem q591 : (Jvm.Cond.methodLink "java/lang/StringUTF16" (111 : Nat) ({ cls := "java/lang/StringUTF16", name := "putChar", desc := "([BII)V" } : Jvm.MethodName)) ∈ lw_all := lw_g (lw_at lw_m2 236 rfl) rfl
theorem q592 : (Jvm.Cond.static ({ cls := "java/lang/StringUTF16", name := "putChar", desc := "([BII)V" } : Jvm.MethodName)) ∈ lw_all := lw_g (lw_at lw_m2 237 rfl) rfl
theorem q593 : (Jvm.Cond.code ({ cls := "java/lang/StringUTF16", name := "putChar", desc := "([BII)V" } : Jvm.MethodName) prog_30_method_4_code (3 : Nat) (Option.none : Option Jvm.ClassFile.FieldType)) ∈ lw_all := lw_g (lw_at lw_m2 238 rfl) rfl
theorem q594 : (Jvm.Cond.fieldLink "java/lang/StringUTF16" (44 : Nat) "java/lang/StringUTF16" "$assertionsDisabled" "Z") ∈ lw_all := lw_g (lw_at lw_m2 239 rfl) rfl
theorem q595 : (Jvm.Cond.laysStatic "java/lang/StringUTF16" "$assertionsDisabled" "Z") ∈ lw_tbl := lw_at lw_m3 0 rfl
theorem q596 : (Jvm.Cond.methodLink "java/lang/StringUTF16" (48 : Nat) ({ cls := "java/lang/StringUTF16", name := "length", desc := "([B)I" } : Jvm.MethodName)) ∈ lw_all := lw_g (lw_at lw_m3 1 rfl) rfl
theorem q597 : (Jvm.Cond.static ({ cls := "java/lang/StringUTF16", name := "length", desc := "([B)I" } : Jvm.MethodName)) ∈ lw_all := lw_g (lw_at lw_m3 2 rfl) rfl
theorem q598 : (Jvm.Cond.code ({ cls := "java/lang/StringUTF16", name := "length", desc := "([B)I" } : Jvm.MethodName) prog_30_method_6_code (1 : Nat) (Option.some Jvm.ClassFile.FieldType.int)) ∈ lw_all := lw_g (lw_at lw_m3 3 rfl) rfl
theorem q599 : (Jvm.Cond.fieldLink "java/lang/StringUTF16" (59 : Nat) "java/lang/StringUTF16" "HI_BYTE_SHIFT" "I") ∈ lw_all := lw_g (lw_at lw_m3 4 rfl) rfl
theorem q600 : (Jvm.Cond.laysStatic "java/lang/StringUTF16" "HI_BYTE_SHIFT" "I") ∈ lw_tbl := lw_at lw_m3 5 rfl
theorem q601 : (Jvm.Cond.fieldLink "java/lang/StringUTF16" (63 : Nat) "java/lang/StringUTF16" "LO_BYTE_SHIFT" "I") ∈ lw_all := lw_g (lw_at lw_m3 6 rfl) rfl
theorem q602 : (Jvm.Cond.laysStatic "java/lang/StringUTF16" "LO_BYTE_SHIFT" "I") ∈ lw_tbl := lw_at lw_m3 7 rfl
theorem q603 : (Jvm.Cond.methodLink "java/lang/StringUTF16" (71 : Nat) ({ cls := "java/lang/StringUTF16", name := "getChar", desc := "([BI)C" } : Jvm.MethodName)) ∈ lw_all := lw_g (lw_at lw_m3 8 rfl) rfl
theorem q604 : (Jvm.Cond.static ({ cls := "java/lang/StringUTF16", name := "getChar", desc := "([BI)C" } : Jvm.MethodName)) ∈ lw_all := lw_g (lw_at lw_m3 9 rfl) rfl
theorem q605 : (Jvm.Cond.code ({ cls := "java/lang/StringUTF16", name := "getChar", desc := "([BI)C" } : Jvm.MethodName) prog_30_method_5_code (2 : Nat) (Option.some Jvm.ClassFile.FieldType.char)) ∈ lw_all := lw_g (lw_at lw_m3 10 rfl) rfl
theorem q606 : (Jvm.Cond.methodLink "java/lang/StringUTF16" (123 : Nat) ({ cls := "java/lang/StringUTF16", name := "compress", desc := "([BI[BII)I" } : Jvm.MethodName)) ∈ lw_all := lw_g (lw_at lw_m3 11 rfl) rfl
theorem q607 : (Jvm.Cond.static ({ cls := "java/lang/StringUTF16", name := "compress", desc := "([BI[BII)I" } : Jvm.MethodName)) ∈ lw_all := lw_g (lw_at lw_m3 12 rfl) rfl
theorem q608 : (Jvm.Cond.code ({ cls := "java/lang/StringUTF16", name := "compress", desc := "([BI[BII)I" } : Jvm.MethodName) prog_30_method_22_code (7 : Nat) (Option.some Jvm.ClassFile.FieldType.int)) ∈ lw_all := lw_g (lw_at lw_m3 13 rfl) rfl
theorem q609 : (Jvm.Cond.methodLink "java/lang/StringUTF16" (173 : Nat) ({ cls := "java/lang/StringUTF16", name := "checkBoundsOffCount", desc := "(II[B)V" } : Jvm.MethodName)) ∈ lw_all := lw_g (lw_at lw_m3 14 rfl) rfl
theorem q610 : (Jvm.Cond.static ({ cls := "java/lang/StringUTF16", name := "checkBoundsOffCount", desc := "(II[B)V" } : Jvm.MethodName)) ∈ lw_all := lw_g (lw_at lw_m3 15 rfl) rfl
theorem q611 : (Jvm.Cond.code ({ cls := "java/lang/StringUTF16", name := "checkBoundsOffCount", desc := "(II[B)V" } : Jvm.MethodName) prog_30_method_94_code (3 : Nat) (Option.none : Option Jvm.ClassFile.FieldType)) ∈ lw_all := lw_g (lw_at lw_m3 16 rfl) rfl
theorem q612 : (Jvm.Cond.methodLink "java/lang/StringUTF16" (419 : Nat) ({ cls := "java/lang/String", name := "checkBoundsOffCount", desc := "(III)I" } : Jvm.MethodName)) ∈ lw_all := lw_g (lw_at lw_m3 17 rfl) rfl
theorem q614 : (Jvm.Cond.static ({ cls := "java/lang/StringUTF16", name := "coderFromArrayLen", desc := "([BI)B" } : Jvm.MethodName)) ∈ lw_all := lw_g (lw_at lw_m3 19 rfl) rfl
theorem q615 : (Jvm.Cond.code ({ cls := "java/lang/StringUTF16", name := "coderFromArrayLen", desc := "([BI)B" } : Jvm.MethodName) prog_30_method_15_code (2 : Nat) (Option.some Jvm.ClassFile.FieldType.byte)) ∈ lw_all := lw_g (lw_at lw_m3 20 rfl) rfl
theorem q696 : (Jvm.Cond.static ({ cls := "java/lang/StringUTF16", name := "hashCode", desc := "([B)I" } : Jvm.MethodName)) ∈ lw_all := lw_g (lw_at lw_m3 101 rfl) rfl
theorem q697 : (Jvm.Cond.code ({ cls := "java/lang/StringUTF16", name := "hashCode", desc := "([B)I" } : Jvm.MethodName) prog_30_method_39_code (1 : Nat) (Option.some Jvm.ClassFile.FieldType.int)) ∈ lw_all := lw_g (lw_at lw_m3 102 rfl) rfl
theorem q698 : (Jvm.Cond.methodLink "java/lang/StringUTF16" (220 : Nat) ({ cls := "jdk/internal/util/ArraysSupport", name := "vectorizedHashCode", desc := "(Ljava/lang/Object;IIII)I" } : Jvm.MethodName)) ∈ lw_all := lw_g (lw_at lw_m3 103 rfl) rfl
theorem q1762 : (Jvm.Cond.static ({ cls := "java/lang/StringUTF16", name := "charAt", desc := "([BI)C" } : Jvm.MethodName)) ∈ lw_all := lw_g (lw_at lw_m7 207 rfl) rfl
theorem q1763 : (Jvm.Cond.code ({ cls := "java/lang/StringUTF16", name := "charAt", desc := "([BI)C" } : Jvm.MethodName) prog_30_method_83_code (2 : Nat) (Option.some Jvm.ClassFile.FieldType.char)) ∈ lw_all := lw_g (lw_at lw_m7 208 rfl) rfl
theorem q1764 : (Jvm.Cond.methodLink "java/lang/StringUTF16" (67 : Nat) ({ cls := "java/lang/StringUTF16", name := "checkIndex", desc := "(I[B)V" } : Jvm.MethodName)) ∈ lw_all := lw_g (lw_at lw_m7 209 rfl) rfl
theorem q1765 : (Jvm.Cond.static ({ cls := "java/lang/StringUTF16", name := "checkIndex", desc := "(I[B)V" } : Jvm.MethodName)) ∈ lw_all := lw_g (lw_at lw_m7 210 rfl) rfl
theorem q1766 : (Jvm.Cond.code ({ cls := "java/lang/StringUTF16", name := "checkIndex", desc := "(I[B)V" } : Jvm.MethodName) prog_30_method_91_code (2 : Nat) (Option.none : Option Jvm.ClassFile.FieldType)) ∈ lw_all := lw_g (lw_at lw_m7 211 rfl) rfl
theorem q1767 : (Jvm.Cond.methodLink "java/lang/StringUTF16" (414 : Nat) ({ cls := "java/lang/String", name := "checkIndex", desc := "(II)V" } : Jvm.MethodName)) ∈ lw_all := lw_g (lw_at lw_m7 212 rfl) rfl
/-! java/lang/StringLatin1 -/
set_option maxRecDepth 100000
def RJ6 : String := "java/lang/StringLatin1"
abbrev cJ6_hashCode : ByteArray := prog_29_method_21_code
def yJ6_hashCode : MethodName := ⟨RJ6, "hashCode", "([B)I"⟩
def dkwJ6_hashCode_2 : List UInt8 := [3, 167, 0, 22, 42, 3, 51, 17, 0, 255, 126, 167, 0, 12, 42, 3, 42, 190, 3, 7, 184, 0, 84, 172]
abbrev dktJ6_hashCode_2 : List UInt8 := dkwJ6_hashCode_2 ++ []
def dkwJ6_hashCode_1 : List UInt8 := [171, 0, 0, 0, 0, 40, 0, 0, 0, 2, 0, 0, 0, 0, 0, 0, 0, 26, 0, 0, 0, 1, 0, 0, 0, 30]
abbrev dktJ6_hashCode_1 : List UInt8 := dkwJ6_hashCode_1 ++ dktJ6_hashCode_2
def dkwJ6_hashCode_0 : List UInt8 := [42, 190]
abbrev dktJ6_hashCode_0 : List UInt8 := dkwJ6_hashCode_0 ++ dktJ6_hashCode_1
theorem dksJ6_hashCode_0 : cJ6_hashCode.data.toList.drop 0 = dktJ6_hashCode_0 := by decide +kernel
theorem dksJ6_hashCode_1 : cJ6_hashCode.data.toList.drop 2 = dktJ6_hashCode_1 := dk_seg dksJ6_hashCode_0 2 rfl rfl
theorem dksJ6_hashCode_2 : cJ6_hashCode.data.toList.drop 28 = dktJ6_hashCode_2 := dk_seg dksJ6_hashCode_1 26 rfl rfl
theorem dJ6_hashCode_0 : decode cJ6_hashCode 0 = .ok (.aload_n 0, 1) := dk_42 (dk_at dksJ6_hashCode_0 0 rfl rfl)
theorem dJ6_hashCode_1 : decode cJ6_hashCode 1 = .ok (.arraylength, 1) := dk_190 (dk_at dksJ6_hashCode_0 1 rfl rfl)
theorem dJ6_hashCode_2 : decode cJ6_hashCode 2 = .ok (.lookupswitch 40 #[(0, 26), (1, 30)], 26) := by decide +kernel
theorem dJ6_hashCode_28 : decode cJ6_hashCode 28 = .ok (.iconst 0, 1) := dk_3 (dk_at dksJ6_hashCode_2 0 rfl rfl)
theorem dJ6_hashCode_29 : decode cJ6_hashCode 29 = .ok (.goto 22, 3) := dk_167 0 22 (dk_at dksJ6_hashCode_2 1 rfl rfl)
theorem dJ6_hashCode_32 : decode cJ6_hashCode 32 = .ok (.aload_n 0, 1) := dk_42 (dk_at dksJ6_hashCode_2 4 rfl rfl)
theorem dJ6_hashCode_33 : decode cJ6_hashCode 33 = .ok (.iconst 0, 1) := dk_3 (dk_at dksJ6_hashCode_2 5 rfl rfl)
theorem dJ6_hashCode_34 : decode cJ6_hashCode 34 = .ok (.baload, 1) := dk_51 (dk_at dksJ6_hashCode_2 6 rfl rfl)
theorem dJ6_hashCode_35 : decode cJ6_hashCode 35 = .ok (.sipush 255, 3) := dk_17 0 255 (dk_at dksJ6_hashCode_2 7 rfl rfl)
theorem dJ6_hashCode_38 : decode cJ6_hashCode 38 = .ok (.iand, 1) := dk_126 (dk_at dksJ6_hashCode_2 10 rfl rfl)
theorem dJ6_hashCode_39 : decode cJ6_hashCode 39 = .ok (.goto 12, 3) := dk_167 0 12 (dk_at dksJ6_hashCode_2 11 rfl rfl)
theorem dJ6_hashCode_42 : decode cJ6_hashCode 42 = .ok (.aload_n 0, 1) := dk_42 (dk_at dksJ6_hashCode_2 14 rfl rfl)
theorem dJ6_hashCode_43 : decode cJ6_hashCode 43 = .ok (.iconst 0, 1) := dk_3 (dk_at dksJ6_hashCode_2 15 rfl rfl)
theorem dJ6_hashCode_44 : decode cJ6_hashCode 44 = .ok (.aload_n 0, 1) := dk_42 (dk_at dksJ6_hashCode_2 16 rfl rfl)
theorem dJ6_hashCode_45 : decode cJ6_hashCode 45 = .ok (.arraylength, 1) := dk_190 (dk_at dksJ6_hashCode_2 17 rfl rfl)
theorem dJ6_hashCode_46 : decode cJ6_hashCode 46 = .ok (.iconst 0, 1) := dk_3 (dk_at dksJ6_hashCode_2 18 rfl rfl)
theorem dJ6_hashCode_47 : decode cJ6_hashCode 47 = .ok (.iconst 4, 1) := dk_7 (dk_at dksJ6_hashCode_2 19 rfl rfl)
theorem dJ6_hashCode_48 : decode cJ6_hashCode 48 = .ok (.invokestatic 84, 3) := dk_184 0 84 (dk_at dksJ6_hashCode_2 20 rfl rfl)
theorem dJ6_hashCode_51 : decode cJ6_hashCode 51 = .ok (.ireturn, 1) := dk_172 (dk_at dksJ6_hashCode_2 23 rfl rfl)
abbrev cJ6_equals : ByteArray := prog_29_method_13_code
def yJ6_equals : MethodName := ⟨RJ6, "equals", "([B[B)Z"⟩
def dkwJ6_equals_1 : List UInt8 := [3, 172, 132, 2, 1, 167, 255, 236, 4, 172, 3, 172]
abbrev dktJ6_equals_1 : List UInt8 := dkwJ6_equals_1 ++ []
def dkwJ6_equals_0 : List UInt8 := [42, 190, 43, 190, 160, 0, 30, 3, 61, 28, 42, 190, 162, 0, 20, 42, 28, 51, 43, 28, 51, 159, 0, 5]
abbrev dktJ6_equals_0 : List UInt8 := dkwJ6_equals_0 ++ dktJ6_equals_1
theorem dksJ6_equals_0 : cJ6_equals.data.toList.drop 0 = dktJ6_equals_0 := by decide +kernel
theorem dksJ6_equals_1 : cJ6_equals.data.toList.drop 24 = dktJ6_equals_1 := dk_seg dksJ6_equals_0 24 rfl rfl
theorem dJ6_equals_0 : decode cJ6_equals 0 = .ok (.aload_n 0, 1) := dk_42 (dk_at dksJ6_equals_0 0 rfl rfl)
theorem dJ6_equals_1 : decode cJ6_equals 1 = .ok (.arraylength, 1) := dk_190 (dk_at dksJ6_equals_0 1 rfl rfl)
theorem dJ6_equals_2 : decode cJ6_equals 2 = .ok (.aload_n 1, 1) := dk_43 (dk_at dksJ6_equals_0 2 rfl rfl)
theorem dJ6_equals_3 : decode cJ6_equals 3 = .ok (.arraylength, 1) := dk_190 (dk_at dksJ6_equals_0 3 rfl rfl)
theorem dJ6_equals_4 : decode cJ6_equals 4 = .ok (.if_icmp .ne 30, 3) := dk_160 0 30 (dk_at dksJ6_equals_0 4 rfl rfl)
theorem dJ6_equals_7 : decode cJ6_equals 7 = .ok (.iconst 0, 1) := dk_3 (dk_at dksJ6_equals_0 7 rfl rfl)
theorem dJ6_equals_8 : decode cJ6_equals 8 = .ok (.istore_n 2, 1) := dk_61 (dk_at dksJ6_equals_0 8 rfl rfl)
theorem dJ6_equals_9 : decode cJ6_equals 9 = .ok (.iload_n 2, 1) := dk_28 (dk_at dksJ6_equals_0 9 rfl rfl)
theorem dJ6_equals_10 : decode cJ6_equals 10 = .ok (.aload_n 0, 1) := dk_42 (dk_at dksJ6_equals_0 10 rfl rfl)
theorem dJ6_equals_11 : decode cJ6_equals 11 = .ok (.arraylength, 1) := dk_190 (dk_at dksJ6_equals_0 11 rfl rfl)
theorem dJ6_equals_12 : decode cJ6_equals 12 = .ok (.if_icmp .ge 20, 3) := dk_162 0 20 (dk_at dksJ6_equals_0 12 rfl rfl)
theorem dJ6_equals_15 : decode cJ6_equals 15 = .ok (.aload_n 0, 1) := dk_42 (dk_at dksJ6_equals_0 15 rfl rfl)
theorem dJ6_equals_16 : decode cJ6_equals 16 = .ok (.iload_n 2, 1) := dk_28 (dk_at dksJ6_equals_0 16 rfl rfl)
theorem dJ6_equals_17 : decode cJ6_equals 17 = .ok (.baload, 1) := dk_51 (dk_at dksJ6_equals_0 17 rfl rfl)
theorem dJ6_equals_18 : decode cJ6_equals 18 = .ok (.aload_n 1, 1) := dk_43 (dk_at dksJ6_equals_0 18 rfl rfl)
theorem dJ6_equals_19 : decode cJ6_equals 19 = .ok (.iload_n 2, 1) := dk_28 (dk_at dksJ6_equals_0 19 rfl rfl)
theorem dJ6_equals_20 : decode cJ6_equals 20 = .ok (.baload, 1) := dk_51 (dk_at dksJ6_equals_0 20 rfl rfl)
theorem dJ6_equals_21 : decode cJ6_equals 21 = .ok (.if_icmp .eq 5, 3) := dk_159 0 5 (dk_at dksJ6_equals_0 21 rfl rfl)
theorem dJ6_equals_24 : decode cJ6_equals 24 = .ok (.iconst 0, 1) := dk_3 (dk_at dksJ6_equals_1 0 rfl rfl)
theorem dJ6_equals_25 : decode cJ6_equals 25 = .ok (.ireturn, 1) := dk_172 (dk_at dksJ6_equals_1 1 rfl rfl)
theorem dJ6_equals_26 : decode cJ6_equals 26 = .ok (.iinc 2 1, 3) := dk_132 2 1 (dk_at dksJ6_equals_1 2 rfl rfl)
theorem dJ6_equals_29 : decode cJ6_equals 29 = .ok (.goto (-20), 3) := dk_167 255 236 (dk_at dksJ6_equals_1 5 rfl rfl)
theorem dJ6_equals_32 : decode cJ6_equals 32 = .ok (.iconst 1, 1) := dk_4 (dk_at dksJ6_equals_1 8 rfl rfl)
theorem dJ6_equals_33 : decode cJ6_equals 33 = .ok (.ireturn, 1) := dk_172 (dk_at dksJ6_equals_1 9 rfl rfl)
theorem dJ6_equals_34 : decode cJ6_equals 34 = .ok (.iconst 0, 1) := dk_3 (dk_at dksJ6_equals_1 10 rfl rfl)
theorem dJ6_equals_35 : decode cJ6_equals 35 = .ok (.ireturn, 1) := dk_172 (dk_at dksJ6_equals_1 11 rfl rfl)
abbrev cJ6_charAt : ByteArray := prog_29_method_2_code
def yJ6_charAt : MethodName := ⟨RJ6, "charAt", "([BI)C"⟩
def dkwJ6_charAt_0 : List UInt8 := [27, 42, 190, 184, 0, 9, 42, 27, 51, 17, 0, 255, 126, 146, 172]
abbrev dktJ6_charAt_0 : List UInt8 := dkwJ6_charAt_0 ++ []
theorem dksJ6_charAt_0 : cJ6_charAt.data.toList.drop 0 = dktJ6_charAt_0 := by decide +kernel
theorem dJ6_charAt_0 : decode cJ6_charAt 0 = .ok (.iload_n 1, 1) := dk_27 (dk_at dksJ6_charAt_0 0 rfl rfl)
theorem dJ6_charAt_1 : decode cJ6_charAt 1 = .ok (.aload_n 0, 1) := dk_42 (dk_at dksJ6_charAt_0 1 rfl rfl)
theorem dJ6_charAt_2 : decode cJ6_charAt 2 = .ok (.arraylength, 1) := dk_190 (dk_at dksJ6_charAt_0 2 rfl rfl)
theorem dJ6_charAt_3 : decode cJ6_charAt 3 = .ok (.invokestatic 9, 3) := dk_184 0 9 (dk_at dksJ6_charAt_0 3 rfl rfl)
theorem dJ6_charAt_6 : decode cJ6_charAt 6 = .ok (.aload_n 0, 1) := dk_42 (dk_at dksJ6_charAt_0 6 rfl rfl)
theorem dJ6_charAt_7 : decode cJ6_charAt 7 = .ok (.iload_n 1, 1) := dk_27 (dk_at dksJ6_charAt_0 7 rfl rfl)
theorem dJ6_charAt_8 : decode cJ6_charAt 8 = .ok (.baload, 1) := dk_51 (dk_at dksJ6_charAt_0 8 rfl rfl)
theorem dJ6_charAt_9 : decode cJ6_charAt 9 = .ok (.sipush 255, 3) := dk_17 0 255 (dk_at dksJ6_charAt_0 9 rfl rfl)
theorem dJ6_charAt_12 : decode cJ6_charAt 12 = .ok (.iand, 1) := dk_126 (dk_at dksJ6_charAt_0 12 rfl rfl)
theorem dJ6_charAt_13 : decode cJ6_charAt 13 = .ok (.i2c, 1) := dk_146 (dk_at dksJ6_charAt_0 13 rfl rfl)
theorem dJ6_charAt_14 : decode cJ6_charAt 14 = .ok (.ireturn, 1) := dk_172 (dk_at dksJ6_charAt_0 14 rfl rfl)
theorem q130 : (Jvm.Cond.initialized "java/lang/StringLatin1") ∈ lw_all := lw_g (lw_at lw_m1 15 rfl) rfl
theorem q655 : (Jvm.Cond.static ({ cls := "java/lang/StringLatin1", name := "hashCode", desc := "([B)I" } : Jvm.MethodName)) ∈ lw_all := lw_g (lw_at lw_m3 60 rfl) rfl
theorem q656 : (Jvm.Cond.code ({ cls := "java/lang/StringLatin1", name := "hashCode", desc := "([B)I" } : Jvm.MethodName) prog_29_method_21_code (1 : Nat) (Option.some Jvm.ClassFile.FieldType.int)) ∈ lw_all := lw_g (lw_at lw_m3 61 rfl) rfl
theorem q657 : (Jvm.Cond.methodLink "java/lang/StringLatin1" (84 : Nat) ({ cls := "jdk/internal/util/ArraysSupport", name := "vectorizedHashCode", desc := "(Ljava/lang/Object;IIII)I" } : Jvm.MethodName)) ∈ lw_all := lw_g (lw_at lw_m3 62 rfl) rfl
theorem q706 : (Jvm.Cond.static ({ cls := "java/lang/StringLatin1", name := "equals", desc := "([B[B)Z" } : Jvm.MethodName)) ∈ lw_all := lw_g (lw_at lw_m3 111 rfl) rfl
theorem q707 : (Jvm.Cond.code ({ cls := "java/lang/StringLatin1", name := "equals", desc := "([B[B)Z" } : Jvm.MethodName) prog_29_method_13_code (3 : Nat) (Option.some Jvm.ClassFile.FieldType.boolean)) ∈ lw_all := lw_g (lw_at lw_m3 112 rfl) rfl
theorem q1753 : (Jvm.Cond.static ({ cls := "java/lang/StringLatin1", name := "charAt", desc := "([BI)C" } : Jvm.MethodName)) ∈ lw_all := lw_g (lw_at lw_m7 198 rfl) rfl
theorem q1754 : (Jvm.Cond.code ({ cls := "java/lang/StringLatin1", name := "charAt", desc := "([BI)C" } : Jvm.MethodName) prog_29_method_2_code (2 : Nat) (Option.some Jvm.ClassFile.FieldType.char)) ∈ lw_all := lw_g (lw_at lw_m7 199 rfl) rfl
theorem q1755 : (Jvm.Cond.methodLink "java/lang/StringLatin1" (9 : Nat) ({ cls := "java/lang/String", name := "checkIndex", desc := "(II)V" } : Jvm.MethodName)) ∈ lw_all := lw_g (lw_at lw_m7 200 rfl) rfl
/-! jdk/internal/util/ArraysSupport -/
set_option maxRecDepth 100000
def RJ7 : String := "jdk/internal/util/ArraysSupport"
abbrev cJ7_vectorizedHashCode : ByteArray := prog_38_method_4_code
def yJ7_vectorizedHashCode : MethodName := ⟨RJ7, "vectorizedHashCode", "(Ljava/lang/Object;IIII)I"⟩
def dkwJ7_vectorizedHashCode_6 : List UInt8 := [183, 0, 91, 18, 92, 182, 0, 94, 21, 4, 182, 0, 98, 182, 0, 101, 183, 0, 105, 191, 172]
abbrev dktJ7_vectorizedHashCode_6 : List UInt8 := dkwJ7_vectorizedHashCode_6 ++ []
def dkwJ7_vectorizedHashCode_5 : List UInt8 := [167, 0, 44, 29, 42, 192, 0, 82, 27, 28, 184, 0, 84, 167, 0, 31, 187, 0, 87, 89, 187, 0, 89, 89]
abbrev dktJ7_vectorizedHashCode_5 : List UInt8 := dkwJ7_vectorizedHashCode_5 ++ dktJ7_vectorizedHashCode_6
def dkwJ7_vectorizedHashCode_4 : List UInt8 := [29, 42, 192, 0, 60, 27, 28, 184, 0, 75, 167, 0, 57, 29, 42, 192, 0, 77, 27, 28, 184, 0, 79]
abbrev dktJ7_vectorizedHashCode_4 : List UInt8 := dkwJ7_vectorizedHashCode_4 ++ dktJ7_vectorizedHashCode_5
def dkwJ7_vectorizedHashCode_3 : List UInt8 := [192, 0, 60, 27, 28, 184, 0, 66, 167, 0, 83, 29, 42, 192, 0, 69, 27, 28, 184, 0, 71, 167, 0, 70]
abbrev dktJ7_vectorizedHashCode_3 : List UInt8 := dkwJ7_vectorizedHashCode_3 ++ dktJ7_vectorizedHashCode_4
def dkwJ7_vectorizedHashCode_2 : List UInt8 := [29, 42, 192, 0, 60, 27, 28, 184, 0, 62, 167, 0, 103, 42, 193, 0, 60, 153, 0, 16, 29, 42]
abbrev dktJ7_vectorizedHashCode_2 : List UInt8 := dkwJ7_vectorizedHashCode_2 ++ dktJ7_vectorizedHashCode_3
def dkwJ7_vectorizedHashCode_1 : List UInt8 := [170, 0, 0, 0, 0, 127, 0, 0, 0, 4, 0, 0, 0, 10, 0, 0, 0, 42, 0, 0, 0, 55, 0, 0, 0, 127, 0, 0, 0, 127, 0, 0, 0, 88, 0, 0, 0, 101, 0, 0, 0, 114]
abbrev dktJ7_vectorizedHashCode_1 : List UInt8 := dkwJ7_vectorizedHashCode_1 ++ dktJ7_vectorizedHashCode_2
def dkwJ7_vectorizedHashCode_0 : List UInt8 := [21, 4]
abbrev dktJ7_vectorizedHashCode_0 : List UInt8 := dkwJ7_vectorizedHashCode_0 ++ dktJ7_vectorizedHashCode_1
theorem dksJ7_vectorizedHashCode_0 : cJ7_vectorizedHashCode.data.toList.drop 0 = dktJ7_vectorizedHashCode_0 := by decide +kernel
theorem dksJ7_vectorizedHashCode_1 : cJ7_vectorizedHashCode.data.toList.drop 2 = dktJ7_vectorizedHashCode_1 := dk_seg dksJ7_vectorizedHashCode_0 2 rfl rfl
theorem dksJ7_vectorizedHashCode_2 : cJ7_vectorizedHashCode.data.toList.drop 44 = dktJ7_vectorizedHashCode_2 := dk_seg dksJ7_vectorizedHashCode_1 42 rfl rfl
theorem dksJ7_vectorizedHashCode_3 : cJ7_vectorizedHashCode.data.toList.drop 66 = dktJ7_vectorizedHashCode_3 := dk_seg dksJ7_vectorizedHashCode_2 22 rfl rfl
theorem dksJ7_vectorizedHashCode_4 : cJ7_vectorizedHashCode.data.toList.drop 90 = dktJ7_vectorizedHashCode_4 := dk_seg dksJ7_vectorizedHashCode_3 24 rfl rfl
theorem dksJ7_vectorizedHashCode_5 : cJ7_vectorizedHashCode.data.toList.drop 113 = dktJ7_vectorizedHashCode_5 := dk_seg dksJ7_vectorizedHashCode_4 23 rfl rfl
theorem dksJ7_vectorizedHashCode_6 : cJ7_vectorizedHashCode.data.toList.drop 137 = dktJ7_vectorizedHashCode_6 := dk_seg dksJ7_vectorizedHashCode_5 24 rfl rfl
theorem dJ7_vectorizedHashCode_0 : decode cJ7_vectorizedHashCode 0 = .ok (.iload 4, 2) := dk_21 4 (dk_at dksJ7_vectorizedHashCode_0 0 rfl rfl)
theorem dJ7_vectorizedHashCode_2 : decode cJ7_vectorizedHashCode 2 = .ok (.tableswitch 127 4 10 #[42, 55, 127, 127, 88, 101, 114], 42) := by decide +kernel
theorem dJ7_vectorizedHashCode_44 : decode cJ7_vectorizedHashCode 44 = .ok (.iload_n 3, 1) := dk_29 (dk_at dksJ7_vectorizedHashCode_2 0 rfl rfl)
theorem dJ7_vectorizedHashCode_45 : decode cJ7_vectorizedHashCode 45 = .ok (.aload_n 0, 1) := dk_42 (dk_at dksJ7_vectorizedHashCode_2 1 rfl rfl)
theorem dJ7_vectorizedHashCode_46 : decode cJ7_vectorizedHashCode 46 = .ok (.checkcast 60, 3) := dk_192 0 60 (dk_at dksJ7_vectorizedHashCode_2 2 rfl rfl)
theorem dJ7_vectorizedHashCode_49 : decode cJ7_vectorizedHashCode 49 = .ok (.iload_n 1, 1) := dk_27 (dk_at dksJ7_vectorizedHashCode_2 5 rfl rfl)
theorem dJ7_vectorizedHashCode_50 : decode cJ7_vectorizedHashCode 50 = .ok (.iload_n 2, 1) := dk_28 (dk_at dksJ7_vectorizedHashCode_2 6 rfl rfl)
theorem dJ7_vectorizedHashCode_51 : decode cJ7_vectorizedHashCode 51 = .ok (.invokestatic 62, 3) := dk_184 0 62 (dk_at dksJ7_vectorizedHashCode_2 7 rfl rfl)
theorem dJ7_vectorizedHashCode_54 : decode cJ7_vectorizedHashCode 54 = .ok (.goto 103, 3) := dk_167 0 103 (dk_at dksJ7_vectorizedHashCode_2 10 rfl rfl)
theorem dJ7_vectorizedHashCode_57 : decode cJ7_vectorizedHashCode 57 = .ok (.aload_n 0, 1) := dk_42 (dk_at dksJ7_vectorizedHashCode_2 13 rfl rfl)
theorem dJ7_vectorizedHashCode_58 : decode cJ7_vectorizedHashCode 58 = .ok (.instanceof 60, 3) := dk_193 0 60 (dk_at dksJ7_vectorizedHashCode_2 14 rfl rfl)
theorem dJ7_vectorizedHashCode_61 : decode cJ7_vectorizedHashCode 61 = .ok (.ifCond .eq 16, 3) := dk_153 0 16 (dk_at dksJ7_vectorizedHashCode_2 17 rfl rfl)
theorem dJ7_vectorizedHashCode_64 : decode cJ7_vectorizedHashCode 64 = .ok (.iload_n 3, 1) := dk_29 (dk_at dksJ7_vectorizedHashCode_2 20 rfl rfl)
theorem dJ7_vectorizedHashCode_65 : decode cJ7_vectorizedHashCode 65 = .ok (.aload_n 0, 1) := dk_42 (dk_at dksJ7_vectorizedHashCode_2 21 rfl rfl)
theorem dJ7_vectorizedHashCode_66 : decode cJ7_vectorizedHashCode 66 = .ok (.checkcast 60, 3) := dk_192 0 60 (dk_at dksJ7_vectorizedHashCode_3 0 rfl rfl)
theorem dJ7_vectorizedHashCode_69 : decode cJ7_vectorizedHashCode 69 = .ok (.iload_n 1, 1) := dk_27 (dk_at dksJ7_vectorizedHashCode_3 3 rfl rfl)
theorem dJ7_vectorizedHashCode_70 : decode cJ7_vectorizedHashCode 70 = .ok (.iload_n 2, 1) := dk_28 (dk_at dksJ7_vectorizedHashCode_3 4 rfl rfl)
theorem dJ7_vectorizedHashCode_71 : decode cJ7_vectorizedHashCode 71 = .ok (.invokestatic 66, 3) := dk_184 0 66 (dk_at dksJ7_vectorizedHashCode_3 5 rfl rfl)
theorem dJ7_vectorizedHashCode_74 : decode cJ7_vectorizedHashCode 74 = .ok (.goto 83, 3) := dk_167 0 83 (dk_at dksJ7_vectorizedHashCode_3 8 rfl rfl)
theorem dJ7_vectorizedHashCode_77 : decode cJ7_vectorizedHashCode 77 = .ok (.iload_n 3, 1) := dk_29 (dk_at dksJ7_vectorizedHashCode_3 11 rfl rfl)
theorem dJ7_vectorizedHashCode_78 : decode cJ7_vectorizedHashCode 78 = .ok (.aload_n 0, 1) := dk_42 (dk_at dksJ7_vectorizedHashCode_3 12 rfl rfl)
theorem dJ7_vectorizedHashCode_79 : decode cJ7_vectorizedHashCode 79 = .ok (.checkcast 69, 3) := dk_192 0 69 (dk_at dksJ7_vectorizedHashCode_3 13 rfl rfl)
theorem dJ7_vectorizedHashCode_82 : decode cJ7_vectorizedHashCode 82 = .ok (.iload_n 1, 1) := dk_27 (dk_at dksJ7_vectorizedHashCode_3 16 rfl rfl)
theorem dJ7_vectorizedHashCode_83 : decode cJ7_vectorizedHashCode 83 = .ok (.iload_n 2, 1) := dk_28 (dk_at dksJ7_vectorizedHashCode_3 17 rfl rfl)
theorem dJ7_vectorizedHashCode_84 : decode cJ7_vectorizedHashCode 84 = .ok (.invokestatic 71, 3) := dk_184 0 71 (dk_at dksJ7_vectorizedHashCode_3 18 rfl rfl)
theorem dJ7_vectorizedHashCode_87 : decode cJ7_vectorizedHashCode 87 = .ok (.goto 70, 3) := dk_167 0 70 (dk_at dksJ7_vectorizedHashCode_3 21 rfl rfl)
theorem dJ7_vectorizedHashCode_90 : decode cJ7_vectorizedHashCode 90 = .ok (.iload_n 3, 1) := dk_29 (dk_at dksJ7_vectorizedHashCode_4 0 rfl rfl)
theorem dJ7_vectorizedHashCode_91 : decode cJ7_vectorizedHashCode 91 = .ok (.aload_n 0, 1) := dk_42 (dk_at dksJ7_vectorizedHashCode_4 1 rfl rfl)
theorem dJ7_vectorizedHashCode_92 : decode cJ7_vectorizedHashCode 92 = .ok (.checkcast 60, 3) := dk_192 0 60 (dk_at dksJ7_vectorizedHashCode_4 2 rfl rfl)
theorem dJ7_vectorizedHashCode_95 : decode cJ7_vectorizedHashCode 95 = .ok (.iload_n 1, 1) := dk_27 (dk_at dksJ7_vectorizedHashCode_4 5 rfl rfl)
theorem dJ7_vectorizedHashCode_96 : decode cJ7_vectorizedHashCode 96 = .ok (.iload_n 2, 1) := dk_28 (dk_at dksJ7_vectorizedHashCode_4 6 rfl rfl)
theorem dJ7_vectorizedHashCode_97 : decode cJ7_vectorizedHashCode 97 = .ok (.invokestatic 75, 3) := dk_184 0 75 (dk_at dksJ7_vectorizedHashCode_4 7 rfl rfl)
theorem dJ7_vectorizedHashCode_100 : decode cJ7_vectorizedHashCode 100 = .ok (.goto 57, 3) := dk_167 0 57 (dk_at dksJ7_vectorizedHashCode_4 10 rfl rfl)
theorem dJ7_vectorizedHashCode_103 : decode cJ7_vectorizedHashCode 103 = .ok (.iload_n 3, 1) := dk_29 (dk_at dksJ7_vectorizedHashCode_4 13 rfl rfl)
theorem dJ7_vectorizedHashCode_104 : decode cJ7_vectorizedHashCode 104 = .ok (.aload_n 0, 1) := dk_42 (dk_at dksJ7_vectorizedHashCode_4 14 rfl rfl)
theorem dJ7_vectorizedHashCode_105 : decode cJ7_vectorizedHashCode 105 = .ok (.checkcast 77, 3) := dk_192 0 77 (dk_at dksJ7_vectorizedHashCode_4 15 rfl rfl)
theorem dJ7_vectorizedHashCode_108 : decode cJ7_vectorizedHashCode 108 = .ok (.iload_n 1, 1) := dk_27 (dk_at dksJ7_vectorizedHashCode_4 18 rfl rfl)
theorem dJ7_vectorizedHashCode_109 : decode cJ7_vectorizedHashCode 109 = .ok (.iload_n 2, 1) := dk_28 (dk_at dksJ7_vectorizedHashCode_4 19 rfl rfl)
theorem dJ7_vectorizedHashCode_110 : decode cJ7_vectorizedHashCode 110 = .ok (.invokestatic 79, 3) := dk_184 0 79 (dk_at dksJ7_vectorizedHashCode_4 20 rfl rfl)
theorem dJ7_vectorizedHashCode_113 : decode cJ7_vectorizedHashCode 113 = .ok (.goto 44, 3) := dk_167 0 44 (dk_at dksJ7_vectorizedHashCode_5 0 rfl rfl)
theorem dJ7_vectorizedHashCode_116 : decode cJ7_vectorizedHashCode 116 = .ok (.iload_n 3, 1) := dk_29 (dk_at dksJ7_vectorizedHashCode_5 3 rfl rfl)
theorem dJ7_vectorizedHashCode_117 : decode cJ7_vectorizedHashCode 117 = .ok (.aload_n 0, 1) := dk_42 (dk_at dksJ7_vectorizedHashCode_5 4 rfl rfl)
theorem dJ7_vectorizedHashCode_118 : decode cJ7_vectorizedHashCode 118 = .ok (.checkcast 82, 3) := dk_192 0 82 (dk_at dksJ7_vectorizedHashCode_5 5 rfl rfl)
theorem dJ7_vectorizedHashCode_121 : decode cJ7_vectorizedHashCode 121 = .ok (.iload_n 1, 1) := dk_27 (dk_at dksJ7_vectorizedHashCode_5 8 rfl rfl)
theorem dJ7_vectorizedHashCode_122 : decode cJ7_vectorizedHashCode 122 = .ok (.iload_n 2, 1) := dk_28 (dk_at dksJ7_vectorizedHashCode_5 9 rfl rfl)
theorem dJ7_vectorizedHashCode_123 : decode cJ7_vectorizedHashCode 123 = .ok (.invokestatic 84, 3) := dk_184 0 84 (dk_at dksJ7_vectorizedHashCode_5 10 rfl rfl)
theorem dJ7_vectorizedHashCode_126 : decode cJ7_vectorizedHashCode 126 = .ok (.goto 31, 3) := dk_167 0 31 (dk_at dksJ7_vectorizedHashCode_5 13 rfl rfl)
theorem dJ7_vectorizedHashCode_129 : decode cJ7_vectorizedHashCode 129 = .ok (.new 87, 3) := dk_187 0 87 (dk_at dksJ7_vectorizedHashCode_5 16 rfl rfl)
theorem dJ7_vectorizedHashCode_132 : decode cJ7_vectorizedHashCode 132 = .ok (.dup, 1) := dk_89 (dk_at dksJ7_vectorizedHashCode_5 19 rfl rfl)
theorem dJ7_vectorizedHashCode_133 : decode cJ7_vectorizedHashCode 133 = .ok (.new 89, 3) := dk_187 0 89 (dk_at dksJ7_vectorizedHashCode_5 20 rfl rfl)
theorem dJ7_vectorizedHashCode_136 : decode cJ7_vectorizedHashCode 136 = .ok (.dup, 1) := dk_89 (dk_at dksJ7_vectorizedHashCode_5 23 rfl rfl)
theorem dJ7_vectorizedHashCode_137 : decode cJ7_vectorizedHashCode 137 = .ok (.invokespecial 91, 3) := dk_183 0 91 (dk_at dksJ7_vectorizedHashCode_6 0 rfl rfl)
theorem dJ7_vectorizedHashCode_140 : decode cJ7_vectorizedHashCode 140 = .ok (.ldc 92, 2) := dk_18 92 (dk_at dksJ7_vectorizedHashCode_6 3 rfl rfl)
theorem dJ7_vectorizedHashCode_142 : decode cJ7_vectorizedHashCode 142 = .ok (.invokevirtual 94, 3) := dk_182 0 94 (dk_at dksJ7_vectorizedHashCode_6 5 rfl rfl)
theorem dJ7_vectorizedHashCode_145 : decode cJ7_vectorizedHashCode 145 = .ok (.iload 4, 2) := dk_21 4 (dk_at dksJ7_vectorizedHashCode_6 8 rfl rfl)
theorem dJ7_vectorizedHashCode_147 : decode cJ7_vectorizedHashCode 147 = .ok (.invokevirtual 98, 3) := dk_182 0 98 (dk_at dksJ7_vectorizedHashCode_6 10 rfl rfl)
theorem dJ7_vectorizedHashCode_150 : decode cJ7_vectorizedHashCode 150 = .ok (.invokevirtual 101, 3) := dk_182 0 101 (dk_at dksJ7_vectorizedHashCode_6 13 rfl rfl)
theorem dJ7_vectorizedHashCode_153 : decode cJ7_vectorizedHashCode 153 = .ok (.invokespecial 105, 3) := dk_183 0 105 (dk_at dksJ7_vectorizedHashCode_6 16 rfl rfl)
theorem dJ7_vectorizedHashCode_156 : decode cJ7_vectorizedHashCode 156 = .ok (.athrow, 1) := dk_191 (dk_at dksJ7_vectorizedHashCode_6 19 rfl rfl)
theorem dJ7_vectorizedHashCode_157 : decode cJ7_vectorizedHashCode 157 = .ok (.ireturn, 1) := dk_172 (dk_at dksJ7_vectorizedHashCode_6 20 rfl rfl)
abbrev cJ7_signedHashCode : ByteArray := prog_38_method_5_code
def yJ7_signedHashCode : MethodName := ⟨RJ7, "signedHashCode", "(I[BII)I"⟩
def dkwJ7_signedHashCode_1 : List UInt8 := [17, 0, 255, 126, 96, 59, 132, 5, 1, 167, 255, 232, 26, 172]
abbrev dktJ7_signedHashCode_1 : List UInt8 := dkwJ7_signedHashCode_1 ++ []
def dkwJ7_signedHashCode_0 : List UInt8 := [28, 29, 96, 54, 4, 28, 54, 5, 21, 5, 21, 4, 162, 0, 23, 16, 31, 26, 104, 43, 21, 5, 51]
abbrev dktJ7_signedHashCode_0 : List UInt8 := dkwJ7_signedHashCode_0 ++ dktJ7_signedHashCode_1
theorem dksJ7_signedHashCode_0 : cJ7_signedHashCode.data.toList.drop 0 = dktJ7_signedHashCode_0 := by decide +kernel
theorem dksJ7_signedHashCode_1 : cJ7_signedHashCode.data.toList.drop 23 = dktJ7_signedHashCode_1 := dk_seg dksJ7_signedHashCode_0 23 rfl rfl
theorem dJ7_signedHashCode_0 : decode cJ7_signedHashCode 0 = .ok (.iload_n 2, 1) := dk_28 (dk_at dksJ7_signedHashCode_0 0 rfl rfl)
theorem dJ7_signedHashCode_1 : decode cJ7_signedHashCode 1 = .ok (.iload_n 3, 1) := dk_29 (dk_at dksJ7_signedHashCode_0 1 rfl rfl)
theorem dJ7_signedHashCode_2 : decode cJ7_signedHashCode 2 = .ok (.iadd, 1) := dk_96 (dk_at dksJ7_signedHashCode_0 2 rfl rfl)
theorem dJ7_signedHashCode_3 : decode cJ7_signedHashCode 3 = .ok (.istore 4, 2) := dk_54 4 (dk_at dksJ7_signedHashCode_0 3 rfl rfl)
theorem dJ7_signedHashCode_5 : decode cJ7_signedHashCode 5 = .ok (.iload_n 2, 1) := dk_28 (dk_at dksJ7_signedHashCode_0 5 rfl rfl)
theorem dJ7_signedHashCode_6 : decode cJ7_signedHashCode 6 = .ok (.istore 5, 2) := dk_54 5 (dk_at dksJ7_signedHashCode_0 6 rfl rfl)
theorem dJ7_signedHashCode_8 : decode cJ7_signedHashCode 8 = .ok (.iload 5, 2) := dk_21 5 (dk_at dksJ7_signedHashCode_0 8 rfl rfl)
theorem dJ7_signedHashCode_10 : decode cJ7_signedHashCode 10 = .ok (.iload 4, 2) := dk_21 4 (dk_at dksJ7_signedHashCode_0 10 rfl rfl)
theorem dJ7_signedHashCode_12 : decode cJ7_signedHashCode 12 = .ok (.if_icmp .ge 23, 3) := dk_162 0 23 (dk_at dksJ7_signedHashCode_0 12 rfl rfl)
theorem dJ7_signedHashCode_15 : decode cJ7_signedHashCode 15 = .ok (.bipush 31, 2) := dk_16 31 (dk_at dksJ7_signedHashCode_0 15 rfl rfl)
theorem dJ7_signedHashCode_17 : decode cJ7_signedHashCode 17 = .ok (.iload_n 0, 1) := dk_26 (dk_at dksJ7_signedHashCode_0 17 rfl rfl)
theorem dJ7_signedHashCode_18 : decode cJ7_signedHashCode 18 = .ok (.imul, 1) := dk_104 (dk_at dksJ7_signedHashCode_0 18 rfl rfl)
theorem dJ7_signedHashCode_19 : decode cJ7_signedHashCode 19 = .ok (.aload_n 1, 1) := dk_43 (dk_at dksJ7_signedHashCode_0 19 rfl rfl)
theorem dJ7_signedHashCode_20 : decode cJ7_signedHashCode 20 = .ok (.iload 5, 2) := dk_21 5 (dk_at dksJ7_signedHashCode_0 20 rfl rfl)
theorem dJ7_signedHashCode_22 : decode cJ7_signedHashCode 22 = .ok (.baload, 1) := dk_51 (dk_at dksJ7_signedHashCode_0 22 rfl rfl)
theorem dJ7_signedHashCode_23 : decode cJ7_signedHashCode 23 = .ok (.sipush 255, 3) := dk_17 0 255 (dk_at dksJ7_signedHashCode_1 0 rfl rfl)
theorem dJ7_signedHashCode_26 : decode cJ7_signedHashCode 26 = .ok (.iand, 1) := dk_126 (dk_at dksJ7_signedHashCode_1 3 rfl rfl)
theorem dJ7_signedHashCode_27 : decode cJ7_signedHashCode 27 = .ok (.iadd, 1) := dk_96 (dk_at dksJ7_signedHashCode_1 4 rfl rfl)
theorem dJ7_signedHashCode_28 : decode cJ7_signedHashCode 28 = .ok (.istore_n 0, 1) := dk_59 (dk_at dksJ7_signedHashCode_1 5 rfl rfl)
theorem dJ7_signedHashCode_29 : decode cJ7_signedHashCode 29 = .ok (.iinc 5 1, 3) := dk_132 5 1 (dk_at dksJ7_signedHashCode_1 6 rfl rfl)
theorem dJ7_signedHashCode_32 : decode cJ7_signedHashCode 32 = .ok (.goto (-24), 3) := dk_167 255 232 (dk_at dksJ7_signedHashCode_1 9 rfl rfl)
theorem dJ7_signedHashCode_35 : decode cJ7_signedHashCode 35 = .ok (.iload_n 0, 1) := dk_26 (dk_at dksJ7_signedHashCode_1 12 rfl rfl)
theorem dJ7_signedHashCode_36 : decode cJ7_signedHashCode 36 = .ok (.ireturn, 1) := dk_172 (dk_at dksJ7_signedHashCode_1 13 rfl rfl)
abbrev cJ7_utf16hashCode : ByteArray := prog_38_method_10_code
def yJ7_utf16hashCode : MethodName := ⟨RJ7, "utf16hashCode", "(I[BII)I"⟩
def dkwJ7_utf16hashCode_1 : List UInt8 := [21, 5, 185, 0, 110, 3, 0, 96, 59, 132, 5, 1, 167, 255, 229, 26, 172]
abbrev dktJ7_utf16hashCode_1 : List UInt8 := dkwJ7_utf16hashCode_1 ++ []
def dkwJ7_utf16hashCode_0 : List UInt8 := [28, 29, 96, 54, 4, 28, 54, 5, 21, 5, 21, 4, 162, 0, 26, 16, 31, 26, 104, 178, 0, 106, 43]
abbrev dktJ7_utf16hashCode_0 : List UInt8 := dkwJ7_utf16hashCode_0 ++ dktJ7_utf16hashCode_1
theorem dksJ7_utf16hashCode_0 : cJ7_utf16hashCode.data.toList.drop 0 = dktJ7_utf16hashCode_0 := by decide +kernel
theorem dksJ7_utf16hashCode_1 : cJ7_utf16hashCode.data.toList.drop 23 = dktJ7_utf16hashCode_1 := dk_seg dksJ7_utf16hashCode_0 23 rfl rfl
theorem dJ7_utf16hashCode_0 : decode cJ7_utf16hashCode 0 = .ok (.iload_n 2, 1) := dk_28 (dk_at dksJ7_utf16hashCode_0 0 rfl rfl)
theorem dJ7_utf16hashCode_1 : decode cJ7_utf16hashCode 1 = .ok (.iload_n 3, 1) := dk_29 (dk_at dksJ7_utf16hashCode_0 1 rfl rfl)
theorem dJ7_utf16hashCode_2 : decode cJ7_utf16hashCode 2 = .ok (.iadd, 1) := dk_96 (dk_at dksJ7_utf16hashCode_0 2 rfl rfl)
theorem dJ7_utf16hashCode_3 : decode cJ7_utf16hashCode 3 = .ok (.istore 4, 2) := dk_54 4 (dk_at dksJ7_utf16hashCode_0 3 rfl rfl)
theorem dJ7_utf16hashCode_5 : decode cJ7_utf16hashCode 5 = .ok (.iload_n 2, 1) := dk_28 (dk_at dksJ7_utf16hashCode_0 5 rfl rfl)
theorem dJ7_utf16hashCode_6 : decode cJ7_utf16hashCode 6 = .ok (.istore 5, 2) := dk_54 5 (dk_at dksJ7_utf16hashCode_0 6 rfl rfl)
theorem dJ7_utf16hashCode_8 : decode cJ7_utf16hashCode 8 = .ok (.iload 5, 2) := dk_21 5 (dk_at dksJ7_utf16hashCode_0 8 rfl rfl)
theorem dJ7_utf16hashCode_10 : decode cJ7_utf16hashCode 10 = .ok (.iload 4, 2) := dk_21 4 (dk_at dksJ7_utf16hashCode_0 10 rfl rfl)
theorem dJ7_utf16hashCode_12 : decode cJ7_utf16hashCode 12 = .ok (.if_icmp .ge 26, 3) := dk_162 0 26 (dk_at dksJ7_utf16hashCode_0 12 rfl rfl)
theorem dJ7_utf16hashCode_15 : decode cJ7_utf16hashCode 15 = .ok (.bipush 31, 2) := dk_16 31 (dk_at dksJ7_utf16hashCode_0 15 rfl rfl)
theorem dJ7_utf16hashCode_17 : decode cJ7_utf16hashCode 17 = .ok (.iload_n 0, 1) := dk_26 (dk_at dksJ7_utf16hashCode_0 17 rfl rfl)
theorem dJ7_utf16hashCode_18 : decode cJ7_utf16hashCode 18 = .ok (.imul, 1) := dk_104 (dk_at dksJ7_utf16hashCode_0 18 rfl rfl)
theorem dJ7_utf16hashCode_19 : decode cJ7_utf16hashCode 19 = .ok (.getstatic 106, 3) := dk_178 0 106 (dk_at dksJ7_utf16hashCode_0 19 rfl rfl)
theorem dJ7_utf16hashCode_22 : decode cJ7_utf16hashCode 22 = .ok (.aload_n 1, 1) := dk_43 (dk_at dksJ7_utf16hashCode_0 22 rfl rfl)
theorem dJ7_utf16hashCode_23 : decode cJ7_utf16hashCode 23 = .ok (.iload 5, 2) := dk_21 5 (dk_at dksJ7_utf16hashCode_1 0 rfl rfl)
theorem dJ7_utf16hashCode_25 : decode cJ7_utf16hashCode 25 = .ok (.invokeinterface 110 3, 5) := by decide +kernel
theorem dJ7_utf16hashCode_30 : decode cJ7_utf16hashCode 30 = .ok (.iadd, 1) := dk_96 (dk_at dksJ7_utf16hashCode_1 7 rfl rfl)
theorem dJ7_utf16hashCode_31 : decode cJ7_utf16hashCode 31 = .ok (.istore_n 0, 1) := dk_59 (dk_at dksJ7_utf16hashCode_1 8 rfl rfl)
theorem dJ7_utf16hashCode_32 : decode cJ7_utf16hashCode 32 = .ok (.iinc 5 1, 3) := dk_132 5 1 (dk_at dksJ7_utf16hashCode_1 9 rfl rfl)
theorem dJ7_utf16hashCode_35 : decode cJ7_utf16hashCode 35 = .ok (.goto (-27), 3) := dk_167 255 229 (dk_at dksJ7_utf16hashCode_1 12 rfl rfl)
theorem dJ7_utf16hashCode_38 : decode cJ7_utf16hashCode 38 = .ok (.iload_n 0, 1) := dk_26 (dk_at dksJ7_utf16hashCode_1 15 rfl rfl)
theorem dJ7_utf16hashCode_39 : decode cJ7_utf16hashCode 39 = .ok (.ireturn, 1) := dk_172 (dk_at dksJ7_utf16hashCode_1 16 rfl rfl)
abbrev cJ7_hashCode : ByteArray := prog_38_method_7_code
def yJ7_hashCode : MethodName := ⟨RJ7, "hashCode", "(I[CII)I"⟩
def dkwJ7_hashCode_1 : List UInt8 := [59, 132, 5, 1, 167, 255, 236, 26, 172]
abbrev dktJ7_hashCode_1 : List UInt8 := dkwJ7_hashCode_1 ++ []
def dkwJ7_hashCode_0 : List UInt8 := [28, 29, 96, 54, 4, 28, 54, 5, 21, 5, 21, 4, 162, 0, 19, 16, 31, 26, 104, 43, 21, 5, 52, 96]
abbrev dktJ7_hashCode_0 : List UInt8 := dkwJ7_hashCode_0 ++ dktJ7_hashCode_1
theorem dksJ7_hashCode_0 : cJ7_hashCode.data.toList.drop 0 = dktJ7_hashCode_0 := by decide +kernel
theorem dksJ7_hashCode_1 : cJ7_hashCode.data.toList.drop 24 = dktJ7_hashCode_1 := dk_seg dksJ7_hashCode_0 24 rfl rfl
theorem dJ7_hashCode_0 : decode cJ7_hashCode 0 = .ok (.iload_n 2, 1) := dk_28 (dk_at dksJ7_hashCode_0 0 rfl rfl)
theorem dJ7_hashCode_1 : decode cJ7_hashCode 1 = .ok (.iload_n 3, 1) := dk_29 (dk_at dksJ7_hashCode_0 1 rfl rfl)
theorem dJ7_hashCode_2 : decode cJ7_hashCode 2 = .ok (.iadd, 1) := dk_96 (dk_at dksJ7_hashCode_0 2 rfl rfl)
theorem dJ7_hashCode_3 : decode cJ7_hashCode 3 = .ok (.istore 4, 2) := dk_54 4 (dk_at dksJ7_hashCode_0 3 rfl rfl)
theorem dJ7_hashCode_5 : decode cJ7_hashCode 5 = .ok (.iload_n 2, 1) := dk_28 (dk_at dksJ7_hashCode_0 5 rfl rfl)
theorem dJ7_hashCode_6 : decode cJ7_hashCode 6 = .ok (.istore 5, 2) := dk_54 5 (dk_at dksJ7_hashCode_0 6 rfl rfl)
theorem dJ7_hashCode_8 : decode cJ7_hashCode 8 = .ok (.iload 5, 2) := dk_21 5 (dk_at dksJ7_hashCode_0 8 rfl rfl)
theorem dJ7_hashCode_10 : decode cJ7_hashCode 10 = .ok (.iload 4, 2) := dk_21 4 (dk_at dksJ7_hashCode_0 10 rfl rfl)
theorem dJ7_hashCode_12 : decode cJ7_hashCode 12 = .ok (.if_icmp .ge 19, 3) := dk_162 0 19 (dk_at dksJ7_hashCode_0 12 rfl rfl)
theorem dJ7_hashCode_15 : decode cJ7_hashCode 15 = .ok (.bipush 31, 2) := dk_16 31 (dk_at dksJ7_hashCode_0 15 rfl rfl)
theorem dJ7_hashCode_17 : decode cJ7_hashCode 17 = .ok (.iload_n 0, 1) := dk_26 (dk_at dksJ7_hashCode_0 17 rfl rfl)
theorem dJ7_hashCode_18 : decode cJ7_hashCode 18 = .ok (.imul, 1) := dk_104 (dk_at dksJ7_hashCode_0 18 rfl rfl)
theorem dJ7_hashCode_19 : decode cJ7_hashCode 19 = .ok (.aload_n 1, 1) := dk_43 (dk_at dksJ7_hashCode_0 19 rfl rfl)
theorem dJ7_hashCode_20 : decode cJ7_hashCode 20 = .ok (.iload 5, 2) := dk_21 5 (dk_at dksJ7_hashCode_0 20 rfl rfl)
theorem dJ7_hashCode_22 : decode cJ7_hashCode 22 = .ok (.caload, 1) := dk_52 (dk_at dksJ7_hashCode_0 22 rfl rfl)
theorem dJ7_hashCode_23 : decode cJ7_hashCode 23 = .ok (.iadd, 1) := dk_96 (dk_at dksJ7_hashCode_0 23 rfl rfl)
theorem dJ7_hashCode_24 : decode cJ7_hashCode 24 = .ok (.istore_n 0, 1) := dk_59 (dk_at dksJ7_hashCode_1 0 rfl rfl)
theorem dJ7_hashCode_25 : decode cJ7_hashCode 25 = .ok (.iinc 5 1, 3) := dk_132 5 1 (dk_at dksJ7_hashCode_1 1 rfl rfl)
theorem dJ7_hashCode_28 : decode cJ7_hashCode 28 = .ok (.goto (-20), 3) := dk_167 255 236 (dk_at dksJ7_hashCode_1 4 rfl rfl)
theorem dJ7_hashCode_31 : decode cJ7_hashCode 31 = .ok (.iload_n 0, 1) := dk_26 (dk_at dksJ7_hashCode_1 7 rfl rfl)
theorem dJ7_hashCode_32 : decode cJ7_hashCode 32 = .ok (.ireturn, 1) := dk_172 (dk_at dksJ7_hashCode_1 8 rfl rfl)
abbrev cJ7_hashCode_2 : ByteArray := prog_38_method_6_code
def yJ7_hashCode_2 : MethodName := ⟨RJ7, "hashCode", "(I[BII)I"⟩
def dkwJ7_hashCode_2_1 : List UInt8 := [59, 132, 5, 1, 167, 255, 236, 26, 172]
abbrev dktJ7_hashCode_2_1 : List UInt8 := dkwJ7_hashCode_2_1 ++ []
def dkwJ7_hashCode_2_0 : List UInt8 := [28, 29, 96, 54, 4, 28, 54, 5, 21, 5, 21, 4, 162, 0, 19, 16, 31, 26, 104, 43, 21, 5, 51, 96]
abbrev dktJ7_hashCode_2_0 : List UInt8 := dkwJ7_hashCode_2_0 ++ dktJ7_hashCode_2_1
theorem dksJ7_hashCode_2_0 : cJ7_hashCode_2.data.toList.drop 0 = dktJ7_hashCode_2_0 := by decide +kernel
theorem dksJ7_hashCode_2_1 : cJ7_hashCode_2.data.toList.drop 24 = dktJ7_hashCode_2_1 := dk_seg dksJ7_hashCode_2_0 24 rfl rfl
theorem dJ7_hashCode_2_0 : decode cJ7_hashCode_2 0 = .ok (.iload_n 2, 1) := dk_28 (dk_at dksJ7_hashCode_2_0 0 rfl rfl)
theorem dJ7_hashCode_2_1 : decode cJ7_hashCode_2 1 = .ok (.iload_n 3, 1) := dk_29 (dk_at dksJ7_hashCode_2_0 1 rfl rfl)
theorem dJ7_hashCode_2_2 : decode cJ7_hashCode_2 2 = .ok (.iadd, 1) := dk_96 (dk_at dksJ7_hashCode_2_0 2 rfl rfl)
theorem dJ7_hashCode_2_3 : decode cJ7_hashCode_2 3 = .ok (.istore 4, 2) := dk_54 4 (dk_at dksJ7_hashCode_2_0 3 rfl rfl)
theorem dJ7_hashCode_2_5 : decode cJ7_hashCode_2 5 = .ok (.iload_n 2, 1) := dk_28 (dk_at dksJ7_hashCode_2_0 5 rfl rfl)
theorem dJ7_hashCode_2_6 : decode cJ7_hashCode_2 6 = .ok (.istore 5, 2) := dk_54 5 (dk_at dksJ7_hashCode_2_0 6 rfl rfl)
theorem dJ7_hashCode_2_8 : decode cJ7_hashCode_2 8 = .ok (.iload 5, 2) := dk_21 5 (dk_at dksJ7_hashCode_2_0 8 rfl rfl)
theorem dJ7_hashCode_2_10 : decode cJ7_hashCode_2 10 = .ok (.iload 4, 2) := dk_21 4 (dk_at dksJ7_hashCode_2_0 10 rfl rfl)
theorem dJ7_hashCode_2_12 : decode cJ7_hashCode_2 12 = .ok (.if_icmp .ge 19, 3) := dk_162 0 19 (dk_at dksJ7_hashCode_2_0 12 rfl rfl)
theorem dJ7_hashCode_2_15 : decode cJ7_hashCode_2 15 = .ok (.bipush 31, 2) := dk_16 31 (dk_at dksJ7_hashCode_2_0 15 rfl rfl)
theorem dJ7_hashCode_2_17 : decode cJ7_hashCode_2 17 = .ok (.iload_n 0, 1) := dk_26 (dk_at dksJ7_hashCode_2_0 17 rfl rfl)
theorem dJ7_hashCode_2_18 : decode cJ7_hashCode_2 18 = .ok (.imul, 1) := dk_104 (dk_at dksJ7_hashCode_2_0 18 rfl rfl)
theorem dJ7_hashCode_2_19 : decode cJ7_hashCode_2 19 = .ok (.aload_n 1, 1) := dk_43 (dk_at dksJ7_hashCode_2_0 19 rfl rfl)
theorem dJ7_hashCode_2_20 : decode cJ7_hashCode_2 20 = .ok (.iload 5, 2) := dk_21 5 (dk_at dksJ7_hashCode_2_0 20 rfl rfl)
theorem dJ7_hashCode_2_22 : decode cJ7_hashCode_2 22 = .ok (.baload, 1) := dk_51 (dk_at dksJ7_hashCode_2_0 22 rfl rfl)
theorem dJ7_hashCode_2_23 : decode cJ7_hashCode_2 23 = .ok (.iadd, 1) := dk_96 (dk_at dksJ7_hashCode_2_0 23 rfl rfl)
theorem dJ7_hashCode_2_24 : decode cJ7_hashCode_2 24 = .ok (.istore_n 0, 1) := dk_59 (dk_at dksJ7_hashCode_2_1 0 rfl rfl)
theorem dJ7_hashCode_2_25 : decode cJ7_hashCode_2 25 = .ok (.iinc 5 1, 3) := dk_132 5 1 (dk_at dksJ7_hashCode_2_1 1 rfl rfl)
theorem dJ7_hashCode_2_28 : decode cJ7_hashCode_2 28 = .ok (.goto (-20), 3) := dk_167 255 236 (dk_at dksJ7_hashCode_2_1 4 rfl rfl)
theorem dJ7_hashCode_2_31 : decode cJ7_hashCode_2 31 = .ok (.iload_n 0, 1) := dk_26 (dk_at dksJ7_hashCode_2_1 7 rfl rfl)
theorem dJ7_hashCode_2_32 : decode cJ7_hashCode_2 32 = .ok (.ireturn, 1) := dk_172 (dk_at dksJ7_hashCode_2_1 8 rfl rfl)
abbrev cJ7_hashCode_3 : ByteArray := prog_38_method_8_code
def yJ7_hashCode_3 : MethodName := ⟨RJ7, "hashCode", "(I[SII)I"⟩
def dkwJ7_hashCode_3_1 : List UInt8 := [59, 132, 5, 1, 167, 255, 236, 26, 172]
abbrev dktJ7_hashCode_3_1 : List UInt8 := dkwJ7_hashCode_3_1 ++ []
def dkwJ7_hashCode_3_0 : List UInt8 := [28, 29, 96, 54, 4, 28, 54, 5, 21, 5, 21, 4, 162, 0, 19, 16, 31, 26, 104, 43, 21, 5, 53, 96]
abbrev dktJ7_hashCode_3_0 : List UInt8 := dkwJ7_hashCode_3_0 ++ dktJ7_hashCode_3_1
theorem dksJ7_hashCode_3_0 : cJ7_hashCode_3.data.toList.drop 0 = dktJ7_hashCode_3_0 := by decide +kernel
theorem dksJ7_hashCode_3_1 : cJ7_hashCode_3.data.toList.drop 24 = dktJ7_hashCode_3_1 := dk_seg dksJ7_hashCode_3_0 24 rfl rfl
theorem dJ7_hashCode_3_0 : decode cJ7_hashCode_3 0 = .ok (.iload_n 2, 1) := dk_28 (dk_at dksJ7_hashCode_3_0 0 rfl rfl)
theorem dJ7_hashCode_3_1 : decode cJ7_hashCode_3 1 = .ok (.iload_n 3, 1) := dk_29 (dk_at dksJ7_hashCode_3_0 1 rfl rfl)
theorem dJ7_hashCode_3_2 : decode cJ7_hashCode_3 2 = .ok (.iadd, 1) := dk_96 (dk_at dksJ7_hashCode_3_0 2 rfl rfl)
theorem dJ7_hashCode_3_3 : decode cJ7_hashCode_3 3 = .ok (.istore 4, 2) := dk_54 4 (dk_at dksJ7_hashCode_3_0 3 rfl rfl)
theorem dJ7_hashCode_3_5 : decode cJ7_hashCode_3 5 = .ok (.iload_n 2, 1) := dk_28 (dk_at dksJ7_hashCode_3_0 5 rfl rfl)
theorem dJ7_hashCode_3_6 : decode cJ7_hashCode_3 6 = .ok (.istore 5, 2) := dk_54 5 (dk_at dksJ7_hashCode_3_0 6 rfl rfl)
theorem dJ7_hashCode_3_8 : decode cJ7_hashCode_3 8 = .ok (.iload 5, 2) := dk_21 5 (dk_at dksJ7_hashCode_3_0 8 rfl rfl)
theorem dJ7_hashCode_3_10 : decode cJ7_hashCode_3 10 = .ok (.iload 4, 2) := dk_21 4 (dk_at dksJ7_hashCode_3_0 10 rfl rfl)
theorem dJ7_hashCode_3_12 : decode cJ7_hashCode_3 12 = .ok (.if_icmp .ge 19, 3) := dk_162 0 19 (dk_at dksJ7_hashCode_3_0 12 rfl rfl)
theorem dJ7_hashCode_3_15 : decode cJ7_hashCode_3 15 = .ok (.bipush 31, 2) := dk_16 31 (dk_at dksJ7_hashCode_3_0 15 rfl rfl)
theorem dJ7_hashCode_3_17 : decode cJ7_hashCode_3 17 = .ok (.iload_n 0, 1) := dk_26 (dk_at dksJ7_hashCode_3_0 17 rfl rfl)
theorem dJ7_hashCode_3_18 : decode cJ7_hashCode_3 18 = .ok (.imul, 1) := dk_104 (dk_at dksJ7_hashCode_3_0 18 rfl rfl)
theorem dJ7_hashCode_3_19 : decode cJ7_hashCode_3 19 = .ok (.aload_n 1, 1) := dk_43 (dk_at dksJ7_hashCode_3_0 19 rfl rfl)
theorem dJ7_hashCode_3_20 : decode cJ7_hashCode_3 20 = .ok (.iload 5, 2) := dk_21 5 (dk_at dksJ7_hashCode_3_0 20 rfl rfl)
theorem dJ7_hashCode_3_22 : decode cJ7_hashCode_3 22 = .ok (.saload, 1) := dk_53 (dk_at dksJ7_hashCode_3_0 22 rfl rfl)
theorem dJ7_hashCode_3_23 : decode cJ7_hashCode_3 23 = .ok (.iadd, 1) := dk_96 (dk_at dksJ7_hashCode_3_0 23 rfl rfl)
theorem dJ7_hashCode_3_24 : decode cJ7_hashCode_3 24 = .ok (.istore_n 0, 1) := dk_59 (dk_at dksJ7_hashCode_3_1 0 rfl rfl)
theorem dJ7_hashCode_3_25 : decode cJ7_hashCode_3 25 = .ok (.iinc 5 1, 3) := dk_132 5 1 (dk_at dksJ7_hashCode_3_1 1 rfl rfl)
theorem dJ7_hashCode_3_28 : decode cJ7_hashCode_3 28 = .ok (.goto (-20), 3) := dk_167 255 236 (dk_at dksJ7_hashCode_3_1 4 rfl rfl)
theorem dJ7_hashCode_3_31 : decode cJ7_hashCode_3 31 = .ok (.iload_n 0, 1) := dk_26 (dk_at dksJ7_hashCode_3_1 7 rfl rfl)
theorem dJ7_hashCode_3_32 : decode cJ7_hashCode_3 32 = .ok (.ireturn, 1) := dk_172 (dk_at dksJ7_hashCode_3_1 8 rfl rfl)
abbrev cJ7_hashCode_4 : ByteArray := prog_38_method_9_code
def yJ7_hashCode_4 : MethodName := ⟨RJ7, "hashCode", "(I[III)I"⟩
def dkwJ7_hashCode_4_1 : List UInt8 := [59, 132, 5, 1, 167, 255, 236, 26, 172]
abbrev dktJ7_hashCode_4_1 : List UInt8 := dkwJ7_hashCode_4_1 ++ []
def dkwJ7_hashCode_4_0 : List UInt8 := [28, 29, 96, 54, 4, 28, 54, 5, 21, 5, 21, 4, 162, 0, 19, 16, 31, 26, 104, 43, 21, 5, 46, 96]
abbrev dktJ7_hashCode_4_0 : List UInt8 := dkwJ7_hashCode_4_0 ++ dktJ7_hashCode_4_1
theorem dksJ7_hashCode_4_0 : cJ7_hashCode_4.data.toList.drop 0 = dktJ7_hashCode_4_0 := by decide +kernel
theorem dksJ7_hashCode_4_1 : cJ7_hashCode_4.data.toList.drop 24 = dktJ7_hashCode_4_1 := dk_seg dksJ7_hashCode_4_0 24 rfl rfl
theorem dJ7_hashCode_4_0 : decode cJ7_hashCode_4 0 = .ok (.iload_n 2, 1) := dk_28 (dk_at dksJ7_hashCode_4_0 0 rfl rfl)
theorem dJ7_hashCode_4_1 : decode cJ7_hashCode_4 1 = .ok (.iload_n 3, 1) := dk_29 (dk_at dksJ7_hashCode_4_0 1 rfl rfl)
theorem dJ7_hashCode_4_2 : decode cJ7_hashCode_4 2 = .ok (.iadd, 1) := dk_96 (dk_at dksJ7_hashCode_4_0 2 rfl rfl)
theorem dJ7_hashCode_4_3 : decode cJ7_hashCode_4 3 = .ok (.istore 4, 2) := dk_54 4 (dk_at dksJ7_hashCode_4_0 3 rfl rfl)
theorem dJ7_hashCode_4_5 : decode cJ7_hashCode_4 5 = .ok (.iload_n 2, 1) := dk_28 (dk_at dksJ7_hashCode_4_0 5 rfl rfl)
theorem dJ7_hashCode_4_6 : decode cJ7_hashCode_4 6 = .ok (.istore 5, 2) := dk_54 5 (dk_at dksJ7_hashCode_4_0 6 rfl rfl)
theorem dJ7_hashCode_4_8 : decode cJ7_hashCode_4 8 = .ok (.iload 5, 2) := dk_21 5 (dk_at dksJ7_hashCode_4_0 8 rfl rfl)
theorem dJ7_hashCode_4_10 : decode cJ7_hashCode_4 10 = .ok (.iload 4, 2) := dk_21 4 (dk_at dksJ7_hashCode_4_0 10 rfl rfl)
theorem dJ7_hashCode_4_12 : decode cJ7_hashCode_4 12 = .ok (.if_icmp .ge 19, 3) := dk_162 0 19 (dk_at dksJ7_hashCode_4_0 12 rfl rfl)
theorem dJ7_hashCode_4_15 : decode cJ7_hashCode_4 15 = .ok (.bipush 31, 2) := dk_16 31 (dk_at dksJ7_hashCode_4_0 15 rfl rfl)
theorem dJ7_hashCode_4_17 : decode cJ7_hashCode_4 17 = .ok (.iload_n 0, 1) := dk_26 (dk_at dksJ7_hashCode_4_0 17 rfl rfl)
theorem dJ7_hashCode_4_18 : decode cJ7_hashCode_4 18 = .ok (.imul, 1) := dk_104 (dk_at dksJ7_hashCode_4_0 18 rfl rfl)
theorem dJ7_hashCode_4_19 : decode cJ7_hashCode_4 19 = .ok (.aload_n 1, 1) := dk_43 (dk_at dksJ7_hashCode_4_0 19 rfl rfl)
theorem dJ7_hashCode_4_20 : decode cJ7_hashCode_4 20 = .ok (.iload 5, 2) := dk_21 5 (dk_at dksJ7_hashCode_4_0 20 rfl rfl)
theorem dJ7_hashCode_4_22 : decode cJ7_hashCode_4 22 = .ok (.iaload, 1) := dk_46 (dk_at dksJ7_hashCode_4_0 22 rfl rfl)
theorem dJ7_hashCode_4_23 : decode cJ7_hashCode_4 23 = .ok (.iadd, 1) := dk_96 (dk_at dksJ7_hashCode_4_0 23 rfl rfl)
theorem dJ7_hashCode_4_24 : decode cJ7_hashCode_4 24 = .ok (.istore_n 0, 1) := dk_59 (dk_at dksJ7_hashCode_4_1 0 rfl rfl)
theorem dJ7_hashCode_4_25 : decode cJ7_hashCode_4 25 = .ok (.iinc 5 1, 3) := dk_132 5 1 (dk_at dksJ7_hashCode_4_1 1 rfl rfl)
theorem dJ7_hashCode_4_28 : decode cJ7_hashCode_4 28 = .ok (.goto (-20), 3) := dk_167 255 236 (dk_at dksJ7_hashCode_4_1 4 rfl rfl)
theorem dJ7_hashCode_4_31 : decode cJ7_hashCode_4 31 = .ok (.iload_n 0, 1) := dk_26 (dk_at dksJ7_hashCode_4_1 7 rfl rfl)
theorem dJ7_hashCode_4_32 : decode cJ7_hashCode_4 32 = .ok (.ireturn, 1) := dk_172 (dk_at dksJ7_hashCode_4_1 8 rfl rfl)
theorem q131 : (Jvm.Cond.initialized "jdk/internal/util/ArraysSupport") ∈ lw_all := lw_g (lw_at lw_m1 16 rfl) rfl
theorem q658 : (Jvm.Cond.static ({ cls := "jdk/internal/util/ArraysSupport", name := "vectorizedHashCode", desc := "(Ljava/lang/Object;IIII)I" } : Jvm.MethodName)) ∈ lw_all := lw_g (lw_at lw_m3 63 rfl) rfl
theorem q659 : (Jvm.Cond.code ({ cls := "jdk/internal/util/ArraysSupport", name := "vectorizedHashCode", desc := "(Ljava/lang/Object;IIII)I" } : Jvm.MethodName) prog_38_method_4_code (5 : Nat) (Option.some Jvm.ClassFile.FieldType.int)) ∈ lw_all := lw_g (lw_at lw_m3 64 rfl) rfl
theorem q660 : (Jvm.Cond.classLink "jdk/internal/util/ArraysSupport" (60 : Nat) "[B") ∈ lw_all := lw_g (lw_at lw_m3 65 rfl) rfl
theorem q661 : (Jvm.Cond.methodLink "jdk/internal/util/ArraysSupport" (62 : Nat) ({ cls := "jdk/internal/util/ArraysSupport", name := "signedHashCode", desc := "(I[BII)I" } : Jvm.MethodName)) ∈ lw_all := lw_g (lw_at lw_m3 66 rfl) rfl
theorem q662 : (Jvm.Cond.static ({ cls := "jdk/internal/util/ArraysSupport", name := "signedHashCode", desc := "(I[BII)I" } : Jvm.MethodName)) ∈ lw_all := lw_g (lw_at lw_m3 67 rfl) rfl
theorem q663 : (Jvm.Cond.code ({ cls := "jdk/internal/util/ArraysSupport", name := "signedHashCode", desc := "(I[BII)I" } : Jvm.MethodName) prog_38_method_5_code (6 : Nat) (Option.some Jvm.ClassFile.FieldType.int)) ∈ lw_all := lw_g (lw_at lw_m3 68 rfl) rfl
theorem q664 : (Jvm.Cond.methodLink "jdk/internal/util/ArraysSupport" (66 : Nat) ({ cls := "jdk/internal/util/ArraysSupport", name := "utf16hashCode", desc := "(I[BII)I" } : Jvm.MethodName)) ∈ lw_all := lw_g (lw_at lw_m3 69 rfl) rfl
theorem q665 : (Jvm.Cond.static ({ cls := "jdk/internal/util/ArraysSupport", name := "utf16hashCode", desc := "(I[BII)I" } : Jvm.MethodName)) ∈ lw_all := lw_g (lw_at lw_m3 70 rfl) rfl
theorem q666 : (Jvm.Cond.code ({ cls := "jdk/internal/util/ArraysSupport", name := "utf16hashCode", desc := "(I[BII)I" } : Jvm.MethodName) prog_38_method_10_code (6 : Nat) (Option.some Jvm.ClassFile.FieldType.int)) ∈ lw_all := lw_g (lw_at lw_m3 71 rfl) rfl
theorem q667 : (Jvm.Cond.fieldLink "jdk/internal/util/ArraysSupport" (106 : Nat) "jdk/internal/util/ArraysSupport" "JLA" "Ljdk/internal/access/JavaLangAccess;") ∈ lw_all := lw_g (lw_at lw_m3 72 rfl) rfl
theorem q668 : (Jvm.Cond.laysStatic "jdk/internal/util/ArraysSupport" "JLA" "Ljdk/internal/access/JavaLangAccess;") ∈ lw_tbl := lw_at lw_m3 73 rfl
theorem q669 : (Jvm.Cond.interfaceEntry "jdk/internal/util/ArraysSupport" (110 : Nat)) ∈ lw_tbl := lw_at lw_m3 74 rfl
theorem q670 : (Jvm.Cond.methodLink "jdk/internal/util/ArraysSupport" (110 : Nat) ({ cls := "jdk/internal/access/JavaLangAccess", name := "getUTF16Char", desc := "([BI)C" } : Jvm.MethodName)) ∈ lw_all := lw_g (lw_at lw_m3 75 rfl) rfl
theorem q680 : (Jvm.Cond.classLink "jdk/internal/util/ArraysSupport" (69 : Nat) "[C") ∈ lw_all := lw_g (lw_at lw_m3 85 rfl) rfl
theorem q681 : (Jvm.Cond.methodLink "jdk/internal/util/ArraysSupport" (71 : Nat) ({ cls := "jdk/internal/util/ArraysSupport", name := "hashCode", desc := "(I[CII)I" } : Jvm.MethodName)) ∈ lw_all := lw_g (lw_at lw_m3 86 rfl) rfl
theorem q682 : (Jvm.Cond.static ({ cls := "jdk/internal/util/ArraysSupport", name := "hashCode", desc := "(I[CII)I" } : Jvm.MethodName)) ∈ lw_all := lw_g (lw_at lw_m3 87 rfl) rfl
theorem q683 : (Jvm.Cond.code ({ cls := "jdk/internal/util/ArraysSupport", name := "hashCode", desc := "(I[CII)I" } : Jvm.MethodName) prog_38_method_7_code (6 : Nat) (Option.some Jvm.ClassFile.FieldType.int)) ∈ lw_all := lw_g (lw_at lw_m3 88 rfl) rfl
theorem q684 : (Jvm.Cond.methodLink "jdk/internal/util/ArraysSupport" (75 : Nat) ({ cls := "jdk/internal/util/ArraysSupport", name := "hashCode", desc := "(I[BII)I" } : Jvm.MethodName)) ∈ lw_all := lw_g (lw_at lw_m3 89 rfl) rfl
theorem q685 : (Jvm.Cond.static ({ cls := "jdk/internal/util/ArraysSupport", name := "hashCode", desc := "(I[BII)I" } : Jvm.MethodName)) ∈ lw_all := lw_g (lw_at lw_m3 90 rfl) rfl
theorem q686 : (Jvm.Cond.code ({ cls := "jdk/internal/util/ArraysSupport", name := "hashCode", desc := "(I[BII)I" } : Jvm.MethodName) prog_38_method_6_code (6 : Nat) (Option.some Jvm.ClassFile.FieldType.int)) ∈ lw_all := lw_g (lw_at lw_m3 91 rfl) rfl
theorem q687 : (Jvm.Cond.classLink "jdk/internal/util/ArraysSupport" (77 : Nat) "[S") ∈ lw_all := lw_g (lw_at lw_m3 92 rfl) rfl
theorem q688 : (Jvm.Cond.methodLink "jdk/internal/util/ArraysSupport" (79 : Nat) ({ cls := "jdk/internal/util/ArraysSupport", name := "hashCode", desc := "(I[SII)I" } : Jvm.MethodName)) ∈ lw_all := lw_g (lw_at lw_m3 93 rfl) rfl
theorem q689 : (Jvm.Cond.static ({ cls := "jdk/internal/util/ArraysSupport", name := "hashCode", desc := "(I[SII)I" } : Jvm.MethodName)) ∈ lw_all := lw_g (lw_at lw_m3 94 rfl) rfl
theorem q690 : (Jvm.Cond.code ({ cls := "jdk/internal/util/ArraysSupport", name := "hashCode", desc := "(I[SII)I" } : Jvm.MethodName) prog_38_method_8_code (6 : Nat) (Option.some Jvm.ClassFile.FieldType.int)) ∈ lw_all := lw_g (lw_at lw_m3 95 rfl) rfl
theorem q691 : (Jvm.Cond.classLink "jdk/internal/util/ArraysSupport" (82 : Nat) "[I") ∈ lw_all := lw_g (lw_at lw_m3 96 rfl) rfl
theorem q692 : (Jvm.Cond.methodLink "jdk/internal/util/ArraysSupport" (84 : Nat) ({ cls := "jdk/internal/util/ArraysSupport", name := "hashCode", desc := "(I[III)I" } : Jvm.MethodName)) ∈ lw_all := lw_g (lw_at lw_m3 97 rfl) rfl
theorem q693 : (Jvm.Cond.static ({ cls := "jdk/internal/util/ArraysSupport", name := "hashCode", desc := "(I[III)I" } : Jvm.MethodName)) ∈ lw_all := lw_g (lw_at lw_m3 98 rfl) rfl
theorem q694 : (Jvm.Cond.code ({ cls := "jdk/internal/util/ArraysSupport", name := "hashCode", desc := "(I[III)I" } : Jvm.MethodName) prog_38_method_9_code (6 : Nat) (Option.some Jvm.ClassFile.FieldType.int)) ∈ lw_all := lw_g (lw_at lw_m3 99 rfl) rfl
/-! java/lang/Math -/
set_option maxRecDepth 100000
def RJ8 : String := "java/lang/Math"
abbrev cJ8_max : ByteArray := prog_26_method_65_code
def yJ8_max : MethodName := ⟨RJ8, "max", "(II)I"⟩
def dkwJ8_max_0 : List UInt8 := [26, 27, 161, 0, 7, 26, 167, 0, 4, 27, 172]
abbrev dktJ8_max_0 : List UInt8 := dkwJ8_max_0 ++ []
theorem dksJ8_max_0 : cJ8_max.data.toList.drop 0 = dktJ8_max_0 := by decide +kernel
theorem dJ8_max_0 : decode cJ8_max 0 = .ok (.iload_n 0, 1) := dk_26 (dk_at dksJ8_max_0 0 rfl rfl)
theorem dJ8_max_1 : decode cJ8_max 1 = .ok (.iload_n 1, 1) := dk_27 (dk_at dksJ8_max_0 1 rfl rfl)
theorem dJ8_max_2 : decode cJ8_max 2 = .ok (.if_icmp .lt 7, 3) := dk_161 0 7 (dk_at dksJ8_max_0 2 rfl rfl)
theorem dJ8_max_5 : decode cJ8_max 5 = .ok (.iload_n 0, 1) := dk_26 (dk_at dksJ8_max_0 5 rfl rfl)
theorem dJ8_max_6 : decode cJ8_max 6 = .ok (.goto 4, 3) := dk_167 0 4 (dk_at dksJ8_max_0 6 rfl rfl)
theorem dJ8_max_9 : decode cJ8_max 9 = .ok (.iload_n 1, 1) := dk_27 (dk_at dksJ8_max_0 9 rfl rfl)
theorem dJ8_max_10 : decode cJ8_max 10 = .ok (.ireturn, 1) := dk_172 (dk_at dksJ8_max_0 10 rfl rfl)
abbrev cJ8_min : ByteArray := prog_26_method_69_code
def yJ8_min : MethodName := ⟨RJ8, "min", "(II)I"⟩
def dkwJ8_min_0 : List UInt8 := [26, 27, 163, 0, 7, 26, 167, 0, 4, 27, 172]
abbrev dktJ8_min_0 : List UInt8 := dkwJ8_min_0 ++ []
theorem dksJ8_min_0 : cJ8_min.data.toList.drop 0 = dktJ8_min_0 := by decide +kernel
theorem dJ8_min_0 : decode cJ8_min 0 = .ok (.iload_n 0, 1) := dk_26 (dk_at dksJ8_min_0 0 rfl rfl)
theorem dJ8_min_1 : decode cJ8_min 1 = .ok (.iload_n 1, 1) := dk_27 (dk_at dksJ8_min_0 1 rfl rfl)
theorem dJ8_min_2 : decode cJ8_min 2 = .ok (.if_icmp .gt 7, 3) := dk_163 0 7 (dk_at dksJ8_min_0 2 rfl rfl)
theorem dJ8_min_5 : decode cJ8_min 5 = .ok (.iload_n 0, 1) := dk_26 (dk_at dksJ8_min_0 5 rfl rfl)
theorem dJ8_min_6 : decode cJ8_min 6 = .ok (.goto 4, 3) := dk_167 0 4 (dk_at dksJ8_min_0 6 rfl rfl)
theorem dJ8_min_9 : decode cJ8_min 9 = .ok (.iload_n 1, 1) := dk_27 (dk_at dksJ8_min_0 9 rfl rfl)
theorem dJ8_min_10 : decode cJ8_min 10 = .ok (.ireturn, 1) := dk_172 (dk_at dksJ8_min_0 10 rfl rfl)
abbrev cJ8_abs : ByteArray := prog_26_method_61_code
def yJ8_abs : MethodName := ⟨RJ8, "abs", "(J)J"⟩
def dkwJ8_abs_0 : List UInt8 := [30, 9, 148, 156, 0, 8, 30, 117, 167, 0, 4, 30, 173]
abbrev dktJ8_abs_0 : List UInt8 := dkwJ8_abs_0 ++ []
theorem dksJ8_abs_0 : cJ8_abs.data.toList.drop 0 = dktJ8_abs_0 := by decide +kernel
theorem dJ8_abs_0 : decode cJ8_abs 0 = .ok (.lload_n 0, 1) := dk_30 (dk_at dksJ8_abs_0 0 rfl rfl)
theorem dJ8_abs_1 : decode cJ8_abs 1 = .ok (.lconst 0, 1) := dk_9 (dk_at dksJ8_abs_0 1 rfl rfl)
theorem dJ8_abs_2 : decode cJ8_abs 2 = .ok (.lcmp, 1) := dk_148 (dk_at dksJ8_abs_0 2 rfl rfl)
theorem dJ8_abs_3 : decode cJ8_abs 3 = .ok (.ifCond .ge 8, 3) := dk_156 0 8 (dk_at dksJ8_abs_0 3 rfl rfl)
theorem dJ8_abs_6 : decode cJ8_abs 6 = .ok (.lload_n 0, 1) := dk_30 (dk_at dksJ8_abs_0 6 rfl rfl)
theorem dJ8_abs_7 : decode cJ8_abs 7 = .ok (.lneg, 1) := dk_117 (dk_at dksJ8_abs_0 7 rfl rfl)
theorem dJ8_abs_8 : decode cJ8_abs 8 = .ok (.goto 4, 3) := dk_167 0 4 (dk_at dksJ8_abs_0 8 rfl rfl)
theorem dJ8_abs_11 : decode cJ8_abs 11 = .ok (.lload_n 0, 1) := dk_30 (dk_at dksJ8_abs_0 11 rfl rfl)
theorem dJ8_abs_12 : decode cJ8_abs 12 = .ok (.lreturn, 1) := dk_173 (dk_at dksJ8_abs_0 12 rfl rfl)
abbrev cJ8_abs_2 : ByteArray := prog_26_method_59_code
def yJ8_abs_2 : MethodName := ⟨RJ8, "abs", "(I)I"⟩
def dkwJ8_abs_2_0 : List UInt8 := [26, 156, 0, 8, 26, 116, 167, 0, 4, 26, 172]
abbrev dktJ8_abs_2_0 : List UInt8 := dkwJ8_abs_2_0 ++ []
theorem dksJ8_abs_2_0 : cJ8_abs_2.data.toList.drop 0 = dktJ8_abs_2_0 := by decide +kernel
theorem dJ8_abs_2_0 : decode cJ8_abs_2 0 = .ok (.iload_n 0, 1) := dk_26 (dk_at dksJ8_abs_2_0 0 rfl rfl)
theorem dJ8_abs_2_1 : decode cJ8_abs_2 1 = .ok (.ifCond .ge 8, 3) := dk_156 0 8 (dk_at dksJ8_abs_2_0 1 rfl rfl)
theorem dJ8_abs_2_4 : decode cJ8_abs_2 4 = .ok (.iload_n 0, 1) := dk_26 (dk_at dksJ8_abs_2_0 4 rfl rfl)
theorem dJ8_abs_2_5 : decode cJ8_abs_2 5 = .ok (.ineg, 1) := dk_116 (dk_at dksJ8_abs_2_0 5 rfl rfl)
theorem dJ8_abs_2_6 : decode cJ8_abs_2 6 = .ok (.goto 4, 3) := dk_167 0 4 (dk_at dksJ8_abs_2_0 6 rfl rfl)
theorem dJ8_abs_2_9 : decode cJ8_abs_2 9 = .ok (.iload_n 0, 1) := dk_26 (dk_at dksJ8_abs_2_0 9 rfl rfl)
theorem dJ8_abs_2_10 : decode cJ8_abs_2 10 = .ok (.ireturn, 1) := dk_172 (dk_at dksJ8_abs_2_0 10 rfl rfl)
theorem q145 : (Jvm.Cond.initialized "java/lang/Math") ∈ lw_all := lw_g (lw_at lw_m1 30 rfl) rfl
theorem q1015 : (Jvm.Cond.static ({ cls := "java/lang/Math", name := "max", desc := "(II)I" } : Jvm.MethodName)) ∈ lw_all := lw_g (lw_at lw_m4 180 rfl) rfl
theorem q1016 : (Jvm.Cond.code ({ cls := "java/lang/Math", name := "max", desc := "(II)I" } : Jvm.MethodName) prog_26_method_65_code (2 : Nat) (Option.some Jvm.ClassFile.FieldType.int)) ∈ lw_all := lw_g (lw_at lw_m4 181 rfl) rfl
theorem q1035 : (Jvm.Cond.static ({ cls := "java/lang/Math", name := "min", desc := "(II)I" } : Jvm.MethodName)) ∈ lw_all := lw_g (lw_at lw_m4 200 rfl) rfl
theorem q1036 : (Jvm.Cond.code ({ cls := "java/lang/Math", name := "min", desc := "(II)I" } : Jvm.MethodName) prog_26_method_69_code (2 : Nat) (Option.some Jvm.ClassFile.FieldType.int)) ∈ lw_all := lw_g (lw_at lw_m4 201 rfl) rfl
theorem q1064 : (Jvm.Cond.static ({ cls := "java/lang/Math", name := "abs", desc := "(J)J" } : Jvm.MethodName)) ∈ lw_all := lw_g (lw_at lw_m4 229 rfl) rfl
theorem q1065 : (Jvm.Cond.code ({ cls := "java/lang/Math", name := "abs", desc := "(J)J" } : Jvm.MethodName) prog_26_method_61_code (2 : Nat) (Option.some Jvm.ClassFile.FieldType.long)) ∈ lw_all := lw_g (lw_at lw_m4 230 rfl) rfl
theorem q1342 : (Jvm.Cond.static ({ cls := "java/lang/Math", name := "abs", desc := "(I)I" } : Jvm.MethodName)) ∈ lw_all := lw_g (lw_at lw_m6 27 rfl) rfl
theorem q1343 : (Jvm.Cond.code ({ cls := "java/lang/Math", name := "abs", desc := "(I)I" } : Jvm.MethodName) prog_26_method_59_code (1 : Nat) (Option.some Jvm.ClassFile.FieldType.int)) ∈ lw_all := lw_g (lw_at lw_m6 28 rfl) rfl
/-! java/util/NoSuchElementException -/
set_option maxRecDepth 100000
def RJ9 : String := "java/util/NoSuchElementException"
def TJ9 : u_T := fun k => match k with
  | 0 => ("java/lang/Throwable", "cause", "Ljava/lang/Throwable;", false)
  | 1 => ("java/lang/Throwable", "stackTrace", "[Ljava/lang/StackTraceElement;", false)
  | 2 => ("java/lang/Throwable", "suppressedExceptions", "Ljava/util/List;", false)
  | 3 => ("java/lang/Throwable", "detailMessage", "Ljava/lang/String;", false)
  | 4 => ("java/lang/Throwable", "backtrace", "Ljava/lang/Object;", false)
  | _ => ("java/lang/Throwable", "depth", "I", false)
def tyJ9 : Nat → FieldType := fun k => match k with
  | 0 => .object "java/lang/Throwable"
  | 1 => .array (.object "java/lang/StackTraceElement")
  | 2 => .object "java/util/List"
  | 3 => .object "java/lang/String"
  | 4 => .object "java/lang/Object"
  | _ => .int
abbrev wsJ90 : List Cond := u_ws RJ9 TJ9 6
theorem nmJ9 : ∀ a, a < 6 → ∀ b, b < 6 → a ≠ b → (TJ9 a).2.1 ≠ (TJ9 b).2.1 := by decide +kernel
theorem tyJ9_ok : ∀ k, k < 6 → parseFieldDescriptor (TJ9 k).2.2.1 = some (tyJ9 k) := by decide +kernel
abbrev cJ9_init : ByteArray := prog_36_method_1_code
def yJ9_init : MethodName := ⟨RJ9, "<init>", "()V"⟩
theorem dJ9_init_0 : decode cJ9_init 0 = .ok (.aload_n 0, 1) := by decide +kernel
theorem dJ9_init_1 : decode cJ9_init 1 = .ok (.invokespecial 1, 3) := by decide +kernel
theorem dJ9_init_4 : decode cJ9_init 4 = .ok (.return_, 1) := by decide +kernel
theorem q146 : (Jvm.Cond.initialized "java/util/NoSuchElementException") ∈ lw_all := lw_g (lw_at lw_m1 31 rfl) rfl
theorem q194 : (Jvm.Cond.selects "java/util/NoSuchElementException" ({ cls := "java/lang/Throwable", name := "fillInStackTrace", desc := "()Ljava/lang/Throwable;" } : Jvm.MethodName) ({ cls := "java/lang/Throwable", name := "fillInStackTrace", desc := "()Ljava/lang/Throwable;" } : Jvm.MethodName)) ∈ lw_all := lw_g (lw_at lw_m1 79 rfl) rfl
theorem q1476 : (Jvm.Cond.instantiable "java/util/NoSuchElementException" (6 : Nat)) ∈ lw_all := lw_g (lw_at lw_m6 161 rfl) rfl
theorem q1477 : (Jvm.Cond.castable "java/util/NoSuchElementException" "java/util/NoSuchElementException") ∈ lw_tbl := lw_at lw_m6 162 rfl
theorem q1478 : (Jvm.Cond.selects "java/util/NoSuchElementException" ({ cls := "java/lang/Throwable", name := "fillInStackTrace", desc := "(I)Ljava/lang/Throwable;" } : Jvm.MethodName) ({ cls := "java/lang/Throwable", name := "fillInStackTrace", desc := "(I)Ljava/lang/Throwable;" } : Jvm.MethodName)) ∈ lw_all := lw_g (lw_at lw_m6 163 rfl) rfl
theorem q1479 : (Jvm.Cond.lays "java/util/NoSuchElementException" "java/lang/Throwable" "cause" "Ljava/lang/Throwable;") ∈ lw_all := lw_g (lw_at lw_m6 164 rfl) rfl
theorem q1480 : (Jvm.Cond.lays "java/util/NoSuchElementException" "java/lang/Throwable" "stackTrace" "[Ljava/lang/StackTraceElement;") ∈ lw_all := lw_g (lw_at lw_m6 165 rfl) rfl
theorem q1481 : (Jvm.Cond.lays "java/util/NoSuchElementException" "java/lang/Throwable" "suppressedExceptions" "Ljava/util/List;") ∈ lw_all := lw_g (lw_at lw_m6 166 rfl) rfl
theorem q1482 : (Jvm.Cond.lays "java/util/NoSuchElementException" "java/lang/Throwable" "detailMessage" "Ljava/lang/String;") ∈ lw_all := lw_g (lw_at lw_m6 167 rfl) rfl
theorem q1483 : (Jvm.Cond.lays "java/util/NoSuchElementException" "java/lang/Throwable" "backtrace" "Ljava/lang/Object;") ∈ lw_all := lw_g (lw_at lw_m6 168 rfl) rfl
theorem q1485 : (Jvm.Cond.instanceMethod ({ cls := "java/util/NoSuchElementException", name := "<init>", desc := "()V" } : Jvm.MethodName)) ∈ lw_all := lw_g (lw_at lw_m6 170 rfl) rfl
theorem q1486 : (Jvm.Cond.code ({ cls := "java/util/NoSuchElementException", name := "<init>", desc := "()V" } : Jvm.MethodName) prog_36_method_1_code (1 : Nat) (Option.none : Option Jvm.ClassFile.FieldType)) ∈ lw_all := lw_g (lw_at lw_m6 171 rfl) rfl
theorem q1487 : (Jvm.Cond.methodLink "java/util/NoSuchElementException" (1 : Nat) ({ cls := "java/lang/RuntimeException", name := "<init>", desc := "()V" } : Jvm.MethodName)) ∈ lw_all := lw_g (lw_at lw_m6 172 rfl) rfl
theorem q1494 : (Jvm.Cond.lays "java/util/NoSuchElementException" "java/lang/Throwable" "depth" "I") ∈ lw_all := lw_g (lw_at lw_m6 179 rfl) rfl
theorem q1495 : (Jvm.Cond.superclass "java/util/NoSuchElementException" "java/lang/RuntimeException") ∈ lw_all := lw_g (lw_at lw_m6 180 rfl) rfl
theorem q2272 : (Jvm.Cond.castable "java/util/NoSuchElementException" "java/lang/Object") ∈ lw_tbl := lw_at lw_m9 237 rfl
theorem in_J9 : ∀ w ∈ wsJ90, w ∈ lw_all := lw_in wsJ90 [1479, 1480, 1481, 1482, 1483, 1494] (by decide +kernel) (by decide +kernel)
/-! java/lang/Object -/
set_option maxRecDepth 100000
def RJ10 : String := "java/lang/Object"
abbrev cJ10_init : ByteArray := object_method_1_code
def yJ10_init : MethodName := ⟨RJ10, "<init>", "()V"⟩
theorem dJ10_init_0 : decode cJ10_init 0 = .ok (.return_, 1) := by decide +kernel
theorem q153 : (Jvm.Cond.instanceMethod ({ cls := "java/lang/Object", name := "<init>", desc := "()V" } : Jvm.MethodName)) ∈ lw_all := lw_g (lw_at lw_m1 38 rfl) rfl
theorem q154 : (Jvm.Cond.code ({ cls := "java/lang/Object", name := "<init>", desc := "()V" } : Jvm.MethodName) object_method_1_code (1 : Nat) (Option.none : Option Jvm.ClassFile.FieldType)) ∈ lw_all := lw_g (lw_at lw_m1 39 rfl) rfl
/-! java/lang/System$2 -/
set_option maxRecDepth 100000
def RJ11 : String := "java/lang/System$2"
abbrev cJ11_getUTF16Char : ByteArray := prog_32_method_45_code
def yJ11_getUTF16Char : MethodName := ⟨RJ11, "getUTF16Char", "([BI)C"⟩
def dkwJ11_getUTF16Char_0 : List UInt8 := [43, 28, 184, 0, 185, 172]
abbrev dktJ11_getUTF16Char_0 : List UInt8 := dkwJ11_getUTF16Char_0 ++ []
theorem dksJ11_getUTF16Char_0 : cJ11_getUTF16Char.data.toList.drop 0 = dktJ11_getUTF16Char_0 := by decide +kernel
theorem dJ11_getUTF16Char_0 : decode cJ11_getUTF16Char 0 = .ok (.aload_n 1, 1) := dk_43 (dk_at dksJ11_getUTF16Char_0 0 rfl rfl)
theorem dJ11_getUTF16Char_1 : decode cJ11_getUTF16Char 1 = .ok (.iload_n 2, 1) := dk_28 (dk_at dksJ11_getUTF16Char_0 1 rfl rfl)
theorem dJ11_getUTF16Char_2 : decode cJ11_getUTF16Char 2 = .ok (.invokestatic 185, 3) := dk_184 0 185 (dk_at dksJ11_getUTF16Char_0 2 rfl rfl)
theorem dJ11_getUTF16Char_5 : decode cJ11_getUTF16Char 5 = .ok (.ireturn, 1) := dk_172 (dk_at dksJ11_getUTF16Char_0 5 rfl rfl)
theorem q673 : (Jvm.Cond.castable "java/lang/System$2" "jdk/internal/access/JavaLangAccess") ∈ lw_tbl := lw_at lw_m3 78 rfl
theorem q674 : (Jvm.Cond.selects "java/lang/System$2" ({ cls := "jdk/internal/access/JavaLangAccess", name := "getUTF16Char", desc := "([BI)C" } : Jvm.MethodName) ({ cls := "java/lang/System$2", name := "getUTF16Char", desc := "([BI)C" } : Jvm.MethodName)) ∈ lw_all := lw_g (lw_at lw_m3 79 rfl) rfl
theorem q675 : (Jvm.Cond.unhidden "java/lang/System$2" "getUTF16Char" "([BI)C") ∈ lw_tbl := lw_at lw_m3 80 rfl
theorem q676 : (Jvm.Cond.instanceMethod ({ cls := "java/lang/System$2", name := "getUTF16Char", desc := "([BI)C" } : Jvm.MethodName)) ∈ lw_all := lw_g (lw_at lw_m3 81 rfl) rfl
theorem q677 : (Jvm.Cond.publicMethod ({ cls := "java/lang/System$2", name := "getUTF16Char", desc := "([BI)C" } : Jvm.MethodName)) ∈ lw_tbl := lw_at lw_m3 82 rfl
theorem q678 : (Jvm.Cond.code ({ cls := "java/lang/System$2", name := "getUTF16Char", desc := "([BI)C" } : Jvm.MethodName) prog_32_method_45_code (3 : Nat) (Option.some Jvm.ClassFile.FieldType.char)) ∈ lw_all := lw_g (lw_at lw_m3 83 rfl) rfl
theorem q679 : (Jvm.Cond.methodLink "java/lang/System$2" (185 : Nat) ({ cls := "java/lang/StringUTF16", name := "getChar", desc := "([BI)C" } : Jvm.MethodName)) ∈ lw_all := lw_g (lw_at lw_m3 84 rfl) rfl
theorem q2261 : (Jvm.Cond.castable "java/lang/System$2" "java/lang/Object") ∈ lw_tbl := lw_at lw_m9 226 rfl
theorem q143 : (Jvm.Cond.initialized "java/lang/System") ∈ lw_all := lw_g (lw_at lw_m1 28 rfl) rfl
set_option maxRecDepth 100000
theorem q927 : (Jvm.Cond.static ({ cls := "java/lang/System", name := "arraycopy", desc := "(Ljava/lang/Object;ILjava/lang/Object;II)V" } : Jvm.MethodName)) ∈ lw_all := lw_g (lw_at lw_m4 92 rfl) rfl
theorem q928 : (Jvm.Cond.native ({ cls := "java/lang/System", name := "arraycopy", desc := "(Ljava/lang/Object;ILjava/lang/Object;II)V" } : Jvm.MethodName)) ∈ lw_all := lw_g (lw_at lw_m4 93 rfl) rfl
theorem q671 : (Jvm.Cond.interfaceMethod "jdk/internal/access/JavaLangAccess" "jdk/internal/access/JavaLangAccess" "getUTF16Char" "([BI)C") ∈ lw_tbl := lw_at lw_m3 76 rfl
set_option maxRecDepth 100000
theorem q672 : (Jvm.Cond.declares ({ cls := "jdk/internal/access/JavaLangAccess", name := "getUTF16Char", desc := "([BI)C" } : Jvm.MethodName)) ∈ lw_tbl := lw_at lw_m3 77 rfl
theorem q234 : (Jvm.Cond.arrayClass Jvm.ClassFile.FieldType.byte) ∈ lw_all := lw_g (lw_at lw_m1 119 rfl) rfl
set_option maxRecDepth 100000
theorem q266 : (Jvm.Cond.arrayClass Jvm.ClassFile.FieldType.char) ∈ lw_all := lw_g (lw_at lw_m1 151 rfl) rfl
theorem q313 : (Jvm.Cond.arrayClass Jvm.ClassFile.FieldType.int) ∈ lw_all := lw_g (lw_at lw_m1 198 rfl) rfl
theorem q365 : (Jvm.Cond.arrayOver (Jvm.ClassFile.FieldType.object "ElephantLine$Front")) ∈ lw_tbl := lw_at lw_m2 10 rfl
theorem q474 : (Jvm.Cond.arrayOver (Jvm.ClassFile.FieldType.object "ElephantLine$Stand")) ∈ lw_tbl := lw_at lw_m2 119 rfl
theorem q476 : (Jvm.Cond.arrayOver (Jvm.ClassFile.FieldType.object "ElephantLine$Beast")) ∈ lw_tbl := lw_at lw_m2 121 rfl
theorem q478 : (Jvm.Cond.arrayOver (Jvm.ClassFile.FieldType.object "ElephantLine$City")) ∈ lw_tbl := lw_at lw_m2 123 rfl
theorem q1708 : (Jvm.Cond.arrayClass Jvm.ClassFile.FieldType.long) ∈ lw_all := lw_g (lw_at lw_m7 153 rfl) rfl
theorem q2277 : (Jvm.Cond.arrayClass Jvm.ClassFile.FieldType.short) ∈ lw_all := lw_g (lw_at lw_m10 2 rfl) rfl
