/-! FigureKneeLaw -/
set_option maxRecDepth 100000
def RX0 : String := "FigureKneeLaw"
abbrev cX0_led : ByteArray := method_3_code
def yX0_led : MethodName := ⟨RX0, "led", "(LFigureKnee;I[J)I"⟩
def dkwX0_led_0 : List UInt8 := [44, 3, 42, 27, 182, 0, 7, 133, 80, 167, 0, 6, 78, 4, 172, 3, 172]
abbrev dktX0_led_0 : List UInt8 := dkwX0_led_0 ++ []
theorem dksX0_led_0 : cX0_led.data.toList.drop 0 = dktX0_led_0 := by decide +kernel
theorem dX0_led_0 : decode cX0_led 0 = .ok (.aload_n 2, 1) := dk_44 (dk_at dksX0_led_0 0 rfl rfl)
theorem dX0_led_1 : decode cX0_led 1 = .ok (.iconst 0, 1) := dk_3 (dk_at dksX0_led_0 1 rfl rfl)
theorem dX0_led_2 : decode cX0_led 2 = .ok (.aload_n 0, 1) := dk_42 (dk_at dksX0_led_0 2 rfl rfl)
theorem dX0_led_3 : decode cX0_led 3 = .ok (.iload_n 1, 1) := dk_27 (dk_at dksX0_led_0 3 rfl rfl)
theorem dX0_led_4 : decode cX0_led 4 = .ok (.invokevirtual 7, 3) := dk_182 0 7 (dk_at dksX0_led_0 4 rfl rfl)
theorem dX0_led_7 : decode cX0_led 7 = .ok (.i2l, 1) := dk_133 (dk_at dksX0_led_0 7 rfl rfl)
theorem dX0_led_8 : decode cX0_led 8 = .ok (.lastore, 1) := dk_80 (dk_at dksX0_led_0 8 rfl rfl)
theorem dX0_led_9 : decode cX0_led 9 = .ok (.goto 6, 3) := dk_167 0 6 (dk_at dksX0_led_0 9 rfl rfl)
theorem dX0_led_12 : decode cX0_led 12 = .ok (.astore_n 3, 1) := dk_78 (dk_at dksX0_led_0 12 rfl rfl)
theorem dX0_led_13 : decode cX0_led 13 = .ok (.iconst 1, 1) := dk_4 (dk_at dksX0_led_0 13 rfl rfl)
theorem dX0_led_14 : decode cX0_led 14 = .ok (.ireturn, 1) := dk_172 (dk_at dksX0_led_0 14 rfl rfl)
theorem dX0_led_15 : decode cX0_led 15 = .ok (.iconst 0, 1) := dk_3 (dk_at dksX0_led_0 15 rfl rfl)
theorem dX0_led_16 : decode cX0_led 16 = .ok (.ireturn, 1) := dk_172 (dk_at dksX0_led_0 16 rfl rfl)
theorem q121 : (Jvm.Cond.initialized "FigureKneeLaw") ∈ lw_all := lw_g (lw_at lw_m1 0 rfl) rfl
theorem q155 : (Jvm.Cond.classLink "FigureKneeLaw" (8 : Nat) "FigureKnee") ∈ lw_all := lw_g (lw_at lw_m1 34 rfl) rfl
theorem q157 : (Jvm.Cond.methodLink "FigureKneeLaw" (15 : Nat) ({ cls := "FigureKnee", name := "<init>", desc := "()V" } : Jvm.MethodName)) ∈ lw_all := lw_g (lw_at lw_m1 36 rfl) rfl
theorem q253 : (Jvm.Cond.methodLink "FigureKneeLaw" (19 : Nat) ({ cls := "FigureKnee", name := "feed", desc := "(IIIII)I" } : Jvm.MethodName)) ∈ lw_all := lw_g (lw_at lw_m1 132 rfl) rfl
theorem q257 : (Jvm.Cond.methodLink "FigureKneeLaw" (24 : Nat) ({ cls := "FigureKnee", name := "pier", desc := "(I)I" } : Jvm.MethodName)) ∈ lw_all := lw_g (lw_at lw_m1 136 rfl) rfl
theorem q1005 : (Jvm.Cond.methodLink "FigureKneeLaw" (28 : Nat) ({ cls := "FigureKnee", name := "fault", desc := "()I" } : Jvm.MethodName)) ∈ lw_all := lw_g (lw_at lw_m4 164 rfl) rfl
theorem q1009 : (Jvm.Cond.methodLink "FigureKneeLaw" (33 : Nat) ({ cls := "FigureKnee", name := "where", desc := "()I" } : Jvm.MethodName)) ∈ lw_all := lw_g (lw_at lw_m4 168 rfl) rfl
theorem q1013 : (Jvm.Cond.methodLink "FigureKneeLaw" (37 : Nat) ({ cls := "FigureKnee", name := "pair", desc := "(II)I" } : Jvm.MethodName)) ∈ lw_all := lw_g (lw_at lw_m4 172 rfl) rfl
theorem q1031 : (Jvm.Cond.methodLink "FigureKneeLaw" (42 : Nat) ({ cls := "FigureKnee", name := "says", desc := "(II)I" } : Jvm.MethodName)) ∈ lw_all := lw_g (lw_at lw_m4 190 rfl) rfl
theorem q1083 : (Jvm.Cond.methodLink "FigureKneeLaw" (46 : Nat) ({ cls := "FigureKnee", name := "saysAll", desc := "(II)I" } : Jvm.MethodName)) ∈ lw_all := lw_g (lw_at lw_m5 2 rfl) rfl
theorem q1087 : (Jvm.Cond.methodLink "FigureKneeLaw" (50 : Nat) ({ cls := "FigureKnee", name := "moreIn", desc := "(I)I" } : Jvm.MethodName)) ∈ lw_all := lw_g (lw_at lw_m5 6 rfl) rfl
theorem q1091 : (Jvm.Cond.methodLink "FigureKneeLaw" (54 : Nat) ({ cls := "FigureKnee", name := "moreTimes", desc := "(II)I" } : Jvm.MethodName)) ∈ lw_all := lw_g (lw_at lw_m5 10 rfl) rfl
theorem q1095 : (Jvm.Cond.methodLink "FigureKneeLaw" (58 : Nat) ({ cls := "FigureKnee", name := "settles", desc := "(I)I" } : Jvm.MethodName)) ∈ lw_all := lw_g (lw_at lw_m5 14 rfl) rfl
theorem q1108 : (Jvm.Cond.methodLink "FigureKneeLaw" (62 : Nat) ({ cls := "FigureKnee", name := "round", desc := "(I)I" } : Jvm.MethodName)) ∈ lw_all := lw_g (lw_at lw_m5 27 rfl) rfl
theorem q1112 : (Jvm.Cond.methodLink "FigureKneeLaw" (66 : Nat) ({ cls := "FigureKnee", name := "saysLate", desc := "(II)I" } : Jvm.MethodName)) ∈ lw_all := lw_g (lw_at lw_m5 31 rfl) rfl
theorem q1117 : (Jvm.Cond.methodLink "FigureKneeLaw" (70 : Nat) ({ cls := "FigureKnee", name := "roundMost", desc := "(I)I" } : Jvm.MethodName)) ∈ lw_all := lw_g (lw_at lw_m5 36 rfl) rfl
theorem q1121 : (Jvm.Cond.methodLink "FigureKneeLaw" (74 : Nat) ({ cls := "FigureKnee", name := "roundLeast", desc := "(I)I" } : Jvm.MethodName)) ∈ lw_all := lw_g (lw_at lw_m5 40 rfl) rfl
theorem q1126 : (Jvm.Cond.methodLink "FigureKneeLaw" (78 : Nat) ({ cls := "FigureKnee", name := "turnsAbout", desc := "(I)I" } : Jvm.MethodName)) ∈ lw_all := lw_g (lw_at lw_m5 45 rfl) rfl
theorem q1130 : (Jvm.Cond.methodLink "FigureKneeLaw" (82 : Nat) ({ cls := "FigureKnee", name := "alikeIn", desc := "(II)I" } : Jvm.MethodName)) ∈ lw_all := lw_g (lw_at lw_m5 49 rfl) rfl
theorem q1138 : (Jvm.Cond.methodLink "FigureKneeLaw" (86 : Nat) ({ cls := "FigureKnee", name := "loudest", desc := "(I)I" } : Jvm.MethodName)) ∈ lw_all := lw_g (lw_at lw_m5 57 rfl) rfl
theorem q1142 : (Jvm.Cond.methodLink "FigureKneeLaw" (90 : Nat) ({ cls := "FigureKnee", name := "overtakes", desc := "(II)I" } : Jvm.MethodName)) ∈ lw_all := lw_g (lw_at lw_m5 61 rfl) rfl
theorem q1146 : (Jvm.Cond.methodLink "FigureKneeLaw" (94 : Nat) ({ cls := "FigureKnee", name := "widest", desc := "(I)I" } : Jvm.MethodName)) ∈ lw_all := lw_g (lw_at lw_m5 65 rfl) rfl
theorem q1157 : (Jvm.Cond.methodLink "FigureKneeLaw" (98 : Nat) ({ cls := "FigureKnee", name := "sumAll", desc := "(I)I" } : Jvm.MethodName)) ∈ lw_all := lw_g (lw_at lw_m5 76 rfl) rfl
theorem q1161 : (Jvm.Cond.methodLink "FigureKneeLaw" (102 : Nat) ({ cls := "FigureKnee", name := "masters", desc := "(I)I" } : Jvm.MethodName)) ∈ lw_all := lw_g (lw_at lw_m5 80 rfl) rfl
theorem q1169 : (Jvm.Cond.methodLink "FigureKneeLaw" (106 : Nat) ({ cls := "FigureKnee", name := "everyFor", desc := "(II)I" } : Jvm.MethodName)) ∈ lw_all := lw_g (lw_at lw_m5 88 rfl) rfl
theorem q1177 : (Jvm.Cond.methodLink "FigureKneeLaw" (110 : Nat) ({ cls := "FigureKnee", name := "everySays", desc := "(II)I" } : Jvm.MethodName)) ∈ lw_all := lw_g (lw_at lw_m5 96 rfl) rfl
theorem q1181 : (Jvm.Cond.methodLink "FigureKneeLaw" (114 : Nat) ({ cls := "FigureKnee", name := "everyNever", desc := "(I)I" } : Jvm.MethodName)) ∈ lw_all := lw_g (lw_at lw_m5 100 rfl) rfl
theorem q1185 : (Jvm.Cond.methodLink "FigureKneeLaw" (118 : Nat) ({ cls := "FigureKnee", name := "stepFor", desc := "(II)I" } : Jvm.MethodName)) ∈ lw_all := lw_g (lw_at lw_m5 104 rfl) rfl
theorem q1189 : (Jvm.Cond.methodLink "FigureKneeLaw" (122 : Nat) ({ cls := "FigureKnee", name := "fits", desc := "()I" } : Jvm.MethodName)) ∈ lw_all := lw_g (lw_at lw_m5 108 rfl) rfl
theorem q1213 : (Jvm.Cond.methodLink "FigureKneeLaw" (126 : Nat) ({ cls := "FigureKnee", name := "fitAt", desc := "(I)I" } : Jvm.MethodName)) ∈ lw_all := lw_g (lw_at lw_m5 132 rfl) rfl
theorem q1217 : (Jvm.Cond.methodLink "FigureKneeLaw" (130 : Nat) ({ cls := "FigureKnee", name := "could", desc := "()I" } : Jvm.MethodName)) ∈ lw_all := lw_g (lw_at lw_m5 136 rfl) rfl
theorem q1221 : (Jvm.Cond.methodLink "FigureKneeLaw" (134 : Nat) ({ cls := "FigureKnee", name := "surely", desc := "()I" } : Jvm.MethodName)) ∈ lw_all := lw_g (lw_at lw_m5 140 rfl) rfl
theorem q1225 : (Jvm.Cond.methodLink "FigureKneeLaw" (138 : Nat) ({ cls := "FigureKnee", name := "ask", desc := "()I" } : Jvm.MethodName)) ∈ lw_all := lw_g (lw_at lw_m5 144 rfl) rfl
theorem q1233 : (Jvm.Cond.methodLink "FigureKneeLaw" (142 : Nat) ({ cls := "FigureKnee", name := "askLeaves", desc := "()I" } : Jvm.MethodName)) ∈ lw_all := lw_g (lw_at lw_m5 152 rfl) rfl
theorem q1237 : (Jvm.Cond.methodLink "FigureKneeLaw" (146 : Nat) ({ cls := "FigureKnee", name := "judge", desc := "()I" } : Jvm.MethodName)) ∈ lw_all := lw_g (lw_at lw_m5 156 rfl) rfl
theorem q1241 : (Jvm.Cond.methodLink "FigureKneeLaw" (150 : Nat) ({ cls := "FigureKnee", name := "third", desc := "(I)I" } : Jvm.MethodName)) ∈ lw_all := lw_g (lw_at lw_m5 160 rfl) rfl
theorem q1245 : (Jvm.Cond.methodLink "FigureKneeLaw" (154 : Nat) ({ cls := "FigureKnee", name := "owes", desc := "(II)I" } : Jvm.MethodName)) ∈ lw_all := lw_g (lw_at lw_m5 164 rfl) rfl
theorem q1253 : (Jvm.Cond.methodLink "FigureKneeLaw" (158 : Nat) ({ cls := "FigureKnee", name := "net", desc := "(I)I" } : Jvm.MethodName)) ∈ lw_all := lw_g (lw_at lw_m5 172 rfl) rfl
theorem q1266 : (Jvm.Cond.methodLink "FigureKneeLaw" (162 : Nat) ({ cls := "FigureKnee", name := "due", desc := "()I" } : Jvm.MethodName)) ∈ lw_all := lw_g (lw_at lw_m5 185 rfl) rfl
theorem q1270 : (Jvm.Cond.methodLink "FigureKneeLaw" (166 : Nat) ({ cls := "FigureKnee", name := "creditor", desc := "()I" } : Jvm.MethodName)) ∈ lw_all := lw_g (lw_at lw_m5 189 rfl) rfl
theorem q1274 : (Jvm.Cond.methodLink "FigureKneeLaw" (170 : Nat) ({ cls := "FigureKnee", name := "payments", desc := "()I" } : Jvm.MethodName)) ∈ lw_all := lw_g (lw_at lw_m5 193 rfl) rfl
theorem q1281 : (Jvm.Cond.methodLink "FigureKneeLaw" (174 : Nat) ({ cls := "FigureKnee", name := "ring", desc := "(I)I" } : Jvm.MethodName)) ∈ lw_all := lw_g (lw_at lw_m5 200 rfl) rfl
theorem q1293 : (Jvm.Cond.methodLink "FigureKneeLaw" (178 : Nat) ({ cls := "FigureKnee", name := "ringAt", desc := "(II)I" } : Jvm.MethodName)) ∈ lw_all := lw_g (lw_at lw_m5 212 rfl) rfl
theorem q1297 : (Jvm.Cond.methodLink "FigureKneeLaw" (182 : Nat) ({ cls := "FigureKnee", name := "talks", desc := "(IZZZ)I" } : Jvm.MethodName)) ∈ lw_all := lw_g (lw_at lw_m5 216 rfl) rfl
theorem q1308 : (Jvm.Cond.methodLink "FigureKneeLaw" (187 : Nat) ({ cls := "FigureKnee", name := "rests", desc := "(I)I" } : Jvm.MethodName)) ∈ lw_all := lw_g (lw_at lw_m5 227 rfl) rfl
theorem q1315 : (Jvm.Cond.methodLink "FigureKneeLaw" (191 : Nat) ({ cls := "FigureKnee", name := "rest", desc := "(I)I" } : Jvm.MethodName)) ∈ lw_all := lw_g (lw_at lw_m5 234 rfl) rfl
theorem q1319 : (Jvm.Cond.methodLink "FigureKneeLaw" (195 : Nat) ({ cls := "FigureKnee", name := "verdictOdds", desc := "(IIZ)J" } : Jvm.MethodName)) ∈ lw_all := lw_g (lw_at lw_m5 238 rfl) rfl
theorem q1338 : (Jvm.Cond.methodLink "FigureKneeLaw" (200 : Nat) ({ cls := "FigureKnee", name := "looks", desc := "(III)I" } : Jvm.MethodName)) ∈ lw_all := lw_g (lw_at lw_m6 17 rfl) rfl
theorem q1357 : (Jvm.Cond.methodLink "FigureKneeLaw" (205 : Nat) ({ cls := "FigureKnee", name := "verdict", desc := "(II)I" } : Jvm.MethodName)) ∈ lw_all := lw_g (lw_at lw_m6 36 rfl) rfl
theorem q1361 : (Jvm.Cond.methodLink "FigureKneeLaw" (209 : Nat) ({ cls := "FigureKnee", name := "odds", desc := "(IIIZ)J" } : Jvm.MethodName)) ∈ lw_all := lw_g (lw_at lw_m6 40 rfl) rfl
theorem q1377 : (Jvm.Cond.methodLink "FigureKneeLaw" (214 : Nat) ({ cls := "FigureKnee", name := "mean", desc := "(IIZ)J" } : Jvm.MethodName)) ∈ lw_all := lw_g (lw_at lw_m6 56 rfl) rfl
theorem q1381 : (Jvm.Cond.methodLink "FigureKneeLaw" (218 : Nat) ({ cls := "FigureKnee", name := "drawn", desc := "(III)I" } : Jvm.MethodName)) ∈ lw_all := lw_g (lw_at lw_m6 60 rfl) rfl
theorem q1385 : (Jvm.Cond.methodLink "FigureKneeLaw" (222 : Nat) ({ cls := "FigureKnee", name := "season", desc := "()I" } : Jvm.MethodName)) ∈ lw_all := lw_g (lw_at lw_m6 64 rfl) rfl
theorem q1410 : (Jvm.Cond.methodLink "FigureKneeLaw" (226 : Nat) ({ cls := "FigureKnee", name := "change", desc := "(I)I" } : Jvm.MethodName)) ∈ lw_all := lw_g (lw_at lw_m6 89 rfl) rfl
theorem q1414 : (Jvm.Cond.methodLink "FigureKneeLaw" (230 : Nat) ({ cls := "FigureKnee", name := "step", desc := "(II)Z" } : Jvm.MethodName)) ∈ lw_all := lw_g (lw_at lw_m6 93 rfl) rfl
theorem q1426 : (Jvm.Cond.methodLink "FigureKneeLaw" (235 : Nat) ({ cls := "FigureKnee", name := "pay", desc := "(III)I" } : Jvm.MethodName)) ∈ lw_all := lw_g (lw_at lw_m6 105 rfl) rfl
theorem q1430 : (Jvm.Cond.methodLink "FigureKneeLaw" (239 : Nat) ({ cls := "FigureKnee", name := "undo", desc := "()Z" } : Jvm.MethodName)) ∈ lw_all := lw_g (lw_at lw_m6 109 rfl) rfl
theorem q1435 : (Jvm.Cond.methodLink "FigureKneeLaw" (244 : Nat) ({ cls := "FigureKnee", name := "image", desc := "()I" } : Jvm.MethodName)) ∈ lw_all := lw_g (lw_at lw_m6 114 rfl) rfl
theorem q1439 : (Jvm.Cond.methodLink "FigureKneeLaw" (248 : Nat) ({ cls := "FigureKnee", name := "back", desc := "(I)Z" } : Jvm.MethodName)) ∈ lw_all := lw_g (lw_at lw_m6 118 rfl) rfl
theorem q1443 : (Jvm.Cond.methodLink "FigureKneeLaw" (262 : Nat) ({ cls := "FigureKnee", name := "size", desc := "(I)I" } : Jvm.MethodName)) ∈ lw_all := lw_g (lw_at lw_m6 122 rfl) rfl
theorem q1447 : (Jvm.Cond.methodLink "FigureKneeLaw" (266 : Nat) ({ cls := "FigureKnee", name := "trouble", desc := "()I" } : Jvm.MethodName)) ∈ lw_all := lw_g (lw_at lw_m6 126 rfl) rfl
theorem q1451 : (Jvm.Cond.methodLink "FigureKneeLaw" (253 : Nat) ({ cls := "FigureKneeLaw", name := "led", desc := "(LFigureKnee;I[J)I" } : Jvm.MethodName)) ∈ lw_all := lw_g (lw_at lw_m6 130 rfl) rfl
theorem q1452 : (Jvm.Cond.static ({ cls := "FigureKneeLaw", name := "led", desc := "(LFigureKnee;I[J)I" } : Jvm.MethodName)) ∈ lw_all := lw_g (lw_at lw_m6 131 rfl) rfl
theorem q1453 : (Jvm.Cond.codeWith ({ cls := "FigureKneeLaw", name := "led", desc := "(LFigureKnee;I[J)I" } : Jvm.MethodName) method_3_code (4 : Nat) (Option.some Jvm.ClassFile.FieldType.int) [((0 : Nat), (9 : Nat), (12 : Nat), (13 : Nat))]) ∈ lw_all := lw_g (lw_at lw_m6 132 rfl) rfl
theorem q1454 : (Jvm.Cond.classLink "FigureKneeLaw" (13 : Nat) "java/util/NoSuchElementException") ∈ lw_all := lw_g (lw_at lw_m6 133 rfl) rfl
theorem q1455 : (Jvm.Cond.methodLink "FigureKneeLaw" (7 : Nat) ({ cls := "FigureKnee", name := "led", desc := "(I)I" } : Jvm.MethodName)) ∈ lw_all := lw_g (lw_at lw_m6 134 rfl) rfl
theorem q1520 : (Jvm.Cond.classLink "FigureKneeLaw" (16 : Nat) "FigureKneeModel") ∈ lw_all := lw_g (lw_at lw_m6 199 rfl) rfl
theorem q1522 : (Jvm.Cond.methodLink "FigureKneeLaw" (18 : Nat) ({ cls := "FigureKneeModel", name := "<init>", desc := "()V" } : Jvm.MethodName)) ∈ lw_all := lw_g (lw_at lw_m6 201 rfl) rfl
theorem q1653 : (Jvm.Cond.methodLink "FigureKneeLaw" (259 : Nat) ({ cls := "FigureKneeModel", name := "thrown", desc := "()I" } : Jvm.MethodName)) ∈ lw_all := lw_g (lw_at lw_m7 92 rfl) rfl
theorem q1657 : (Jvm.Cond.methodLink "FigureKneeLaw" (23 : Nat) ({ cls := "FigureKneeModel", name := "feed", desc := "(IIIII)I" } : Jvm.MethodName)) ∈ lw_all := lw_g (lw_at lw_m7 96 rfl) rfl
theorem q1661 : (Jvm.Cond.methodLink "FigureKneeLaw" (27 : Nat) ({ cls := "FigureKneeModel", name := "pier", desc := "(I)I" } : Jvm.MethodName)) ∈ lw_all := lw_g (lw_at lw_m7 100 rfl) rfl
theorem q1808 : (Jvm.Cond.methodLink "FigureKneeLaw" (32 : Nat) ({ cls := "FigureKneeModel", name := "fault", desc := "()I" } : Jvm.MethodName)) ∈ lw_all := lw_g (lw_at lw_m8 7 rfl) rfl
theorem q1812 : (Jvm.Cond.methodLink "FigureKneeLaw" (36 : Nat) ({ cls := "FigureKneeModel", name := "where", desc := "()I" } : Jvm.MethodName)) ∈ lw_all := lw_g (lw_at lw_m8 11 rfl) rfl
theorem q1816 : (Jvm.Cond.methodLink "FigureKneeLaw" (41 : Nat) ({ cls := "FigureKneeModel", name := "pair", desc := "(II)I" } : Jvm.MethodName)) ∈ lw_all := lw_g (lw_at lw_m8 15 rfl) rfl
theorem q1828 : (Jvm.Cond.methodLink "FigureKneeLaw" (45 : Nat) ({ cls := "FigureKneeModel", name := "says", desc := "(II)I" } : Jvm.MethodName)) ∈ lw_all := lw_g (lw_at lw_m8 27 rfl) rfl
theorem q1860 : (Jvm.Cond.methodLink "FigureKneeLaw" (49 : Nat) ({ cls := "FigureKneeModel", name := "saysAll", desc := "(II)I" } : Jvm.MethodName)) ∈ lw_all := lw_g (lw_at lw_m8 59 rfl) rfl
theorem q1864 : (Jvm.Cond.methodLink "FigureKneeLaw" (53 : Nat) ({ cls := "FigureKneeModel", name := "moreIn", desc := "(I)I" } : Jvm.MethodName)) ∈ lw_all := lw_g (lw_at lw_m8 63 rfl) rfl
theorem q1868 : (Jvm.Cond.methodLink "FigureKneeLaw" (57 : Nat) ({ cls := "FigureKneeModel", name := "moreTimes", desc := "(II)I" } : Jvm.MethodName)) ∈ lw_all := lw_g (lw_at lw_m8 67 rfl) rfl
theorem q1872 : (Jvm.Cond.methodLink "FigureKneeLaw" (61 : Nat) ({ cls := "FigureKneeModel", name := "settles", desc := "(I)I" } : Jvm.MethodName)) ∈ lw_all := lw_g (lw_at lw_m8 71 rfl) rfl
theorem q1884 : (Jvm.Cond.methodLink "FigureKneeLaw" (65 : Nat) ({ cls := "FigureKneeModel", name := "round", desc := "(I)I" } : Jvm.MethodName)) ∈ lw_all := lw_g (lw_at lw_m8 83 rfl) rfl
theorem q1888 : (Jvm.Cond.methodLink "FigureKneeLaw" (69 : Nat) ({ cls := "FigureKneeModel", name := "saysLate", desc := "(II)I" } : Jvm.MethodName)) ∈ lw_all := lw_g (lw_at lw_m8 87 rfl) rfl
theorem q1893 : (Jvm.Cond.methodLink "FigureKneeLaw" (73 : Nat) ({ cls := "FigureKneeModel", name := "roundMost", desc := "(I)I" } : Jvm.MethodName)) ∈ lw_all := lw_g (lw_at lw_m8 92 rfl) rfl
theorem q1901 : (Jvm.Cond.methodLink "FigureKneeLaw" (77 : Nat) ({ cls := "FigureKneeModel", name := "roundLeast", desc := "(I)I" } : Jvm.MethodName)) ∈ lw_all := lw_g (lw_at lw_m8 100 rfl) rfl
theorem q1905 : (Jvm.Cond.methodLink "FigureKneeLaw" (81 : Nat) ({ cls := "FigureKneeModel", name := "turnsAbout", desc := "(I)I" } : Jvm.MethodName)) ∈ lw_all := lw_g (lw_at lw_m8 104 rfl) rfl
theorem q1909 : (Jvm.Cond.methodLink "FigureKneeLaw" (85 : Nat) ({ cls := "FigureKneeModel", name := "alikeIn", desc := "(II)I" } : Jvm.MethodName)) ∈ lw_all := lw_g (lw_at lw_m8 108 rfl) rfl
theorem q1917 : (Jvm.Cond.methodLink "FigureKneeLaw" (89 : Nat) ({ cls := "FigureKneeModel", name := "loudest", desc := "(I)I" } : Jvm.MethodName)) ∈ lw_all := lw_g (lw_at lw_m8 116 rfl) rfl
theorem q1921 : (Jvm.Cond.methodLink "FigureKneeLaw" (105 : Nat) ({ cls := "FigureKneeModel", name := "masters", desc := "(I)I" } : Jvm.MethodName)) ∈ lw_all := lw_g (lw_at lw_m8 120 rfl) rfl
theorem q1929 : (Jvm.Cond.methodLink "FigureKneeLaw" (93 : Nat) ({ cls := "FigureKneeModel", name := "overtakes", desc := "(II)I" } : Jvm.MethodName)) ∈ lw_all := lw_g (lw_at lw_m8 128 rfl) rfl
theorem q1933 : (Jvm.Cond.methodLink "FigureKneeLaw" (97 : Nat) ({ cls := "FigureKneeModel", name := "widest", desc := "(I)I" } : Jvm.MethodName)) ∈ lw_all := lw_g (lw_at lw_m8 132 rfl) rfl
theorem q1937 : (Jvm.Cond.methodLink "FigureKneeLaw" (101 : Nat) ({ cls := "FigureKneeModel", name := "sumAll", desc := "(I)I" } : Jvm.MethodName)) ∈ lw_all := lw_g (lw_at lw_m8 136 rfl) rfl
theorem q1941 : (Jvm.Cond.methodLink "FigureKneeLaw" (109 : Nat) ({ cls := "FigureKneeModel", name := "everyFor", desc := "(II)I" } : Jvm.MethodName)) ∈ lw_all := lw_g (lw_at lw_m8 140 rfl) rfl
theorem q1949 : (Jvm.Cond.methodLink "FigureKneeLaw" (113 : Nat) ({ cls := "FigureKneeModel", name := "everySays", desc := "(II)I" } : Jvm.MethodName)) ∈ lw_all := lw_g (lw_at lw_m8 148 rfl) rfl
theorem q1953 : (Jvm.Cond.methodLink "FigureKneeLaw" (117 : Nat) ({ cls := "FigureKneeModel", name := "everyNever", desc := "(I)I" } : Jvm.MethodName)) ∈ lw_all := lw_g (lw_at lw_m8 152 rfl) rfl
theorem q1961 : (Jvm.Cond.methodLink "FigureKneeLaw" (121 : Nat) ({ cls := "FigureKneeModel", name := "stepFor", desc := "(II)I" } : Jvm.MethodName)) ∈ lw_all := lw_g (lw_at lw_m8 160 rfl) rfl
theorem q1965 : (Jvm.Cond.methodLink "FigureKneeLaw" (125 : Nat) ({ cls := "FigureKneeModel", name := "fits", desc := "()I" } : Jvm.MethodName)) ∈ lw_all := lw_g (lw_at lw_m8 164 rfl) rfl
theorem q1988 : (Jvm.Cond.methodLink "FigureKneeLaw" (129 : Nat) ({ cls := "FigureKneeModel", name := "fitAt", desc := "(I)I" } : Jvm.MethodName)) ∈ lw_all := lw_g (lw_at lw_m8 187 rfl) rfl
theorem q1992 : (Jvm.Cond.methodLink "FigureKneeLaw" (133 : Nat) ({ cls := "FigureKneeModel", name := "could", desc := "()I" } : Jvm.MethodName)) ∈ lw_all := lw_g (lw_at lw_m8 191 rfl) rfl
theorem q1996 : (Jvm.Cond.methodLink "FigureKneeLaw" (137 : Nat) ({ cls := "FigureKneeModel", name := "surely", desc := "()I" } : Jvm.MethodName)) ∈ lw_all := lw_g (lw_at lw_m8 195 rfl) rfl
theorem q2000 : (Jvm.Cond.methodLink "FigureKneeLaw" (141 : Nat) ({ cls := "FigureKneeModel", name := "ask", desc := "()I" } : Jvm.MethodName)) ∈ lw_all := lw_g (lw_at lw_m8 199 rfl) rfl
theorem q2012 : (Jvm.Cond.methodLink "FigureKneeLaw" (145 : Nat) ({ cls := "FigureKneeModel", name := "askLeaves", desc := "()I" } : Jvm.MethodName)) ∈ lw_all := lw_g (lw_at lw_m8 211 rfl) rfl
theorem q2016 : (Jvm.Cond.methodLink "FigureKneeLaw" (149 : Nat) ({ cls := "FigureKneeModel", name := "judge", desc := "()I" } : Jvm.MethodName)) ∈ lw_all := lw_g (lw_at lw_m8 215 rfl) rfl
theorem q2020 : (Jvm.Cond.methodLink "FigureKneeLaw" (153 : Nat) ({ cls := "FigureKneeModel", name := "third", desc := "(I)I" } : Jvm.MethodName)) ∈ lw_all := lw_g (lw_at lw_m8 219 rfl) rfl
theorem q2024 : (Jvm.Cond.methodLink "FigureKneeLaw" (157 : Nat) ({ cls := "FigureKneeModel", name := "owes", desc := "(II)I" } : Jvm.MethodName)) ∈ lw_all := lw_g (lw_at lw_m8 223 rfl) rfl
theorem q2032 : (Jvm.Cond.methodLink "FigureKneeLaw" (161 : Nat) ({ cls := "FigureKneeModel", name := "net", desc := "(I)I" } : Jvm.MethodName)) ∈ lw_all := lw_g (lw_at lw_m8 231 rfl) rfl
theorem q2041 : (Jvm.Cond.methodLink "FigureKneeLaw" (165 : Nat) ({ cls := "FigureKneeModel", name := "due", desc := "()I" } : Jvm.MethodName)) ∈ lw_all := lw_g (lw_at lw_m9 0 rfl) rfl
theorem q2045 : (Jvm.Cond.methodLink "FigureKneeLaw" (169 : Nat) ({ cls := "FigureKneeModel", name := "creditor", desc := "()I" } : Jvm.MethodName)) ∈ lw_all := lw_g (lw_at lw_m9 4 rfl) rfl
theorem q2049 : (Jvm.Cond.methodLink "FigureKneeLaw" (173 : Nat) ({ cls := "FigureKneeModel", name := "payments", desc := "()I" } : Jvm.MethodName)) ∈ lw_all := lw_g (lw_at lw_m9 8 rfl) rfl
theorem q2064 : (Jvm.Cond.methodLink "FigureKneeLaw" (177 : Nat) ({ cls := "FigureKneeModel", name := "ring", desc := "(I)I" } : Jvm.MethodName)) ∈ lw_all := lw_g (lw_at lw_m9 23 rfl) rfl
theorem q2077 : (Jvm.Cond.methodLink "FigureKneeLaw" (181 : Nat) ({ cls := "FigureKneeModel", name := "ringAt", desc := "(II)I" } : Jvm.MethodName)) ∈ lw_all := lw_g (lw_at lw_m9 36 rfl) rfl
theorem q2081 : (Jvm.Cond.methodLink "FigureKneeLaw" (186 : Nat) ({ cls := "FigureKneeModel", name := "talks", desc := "(IZZZ)I" } : Jvm.MethodName)) ∈ lw_all := lw_g (lw_at lw_m9 40 rfl) rfl
theorem q2088 : (Jvm.Cond.methodLink "FigureKneeLaw" (190 : Nat) ({ cls := "FigureKneeModel", name := "rests", desc := "(I)I" } : Jvm.MethodName)) ∈ lw_all := lw_g (lw_at lw_m9 47 rfl) rfl
theorem q2096 : (Jvm.Cond.methodLink "FigureKneeLaw" (194 : Nat) ({ cls := "FigureKneeModel", name := "rest", desc := "(I)I" } : Jvm.MethodName)) ∈ lw_all := lw_g (lw_at lw_m9 55 rfl) rfl
theorem q2100 : (Jvm.Cond.methodLink "FigureKneeLaw" (199 : Nat) ({ cls := "FigureKneeModel", name := "verdictOdds", desc := "(IIZ)J" } : Jvm.MethodName)) ∈ lw_all := lw_g (lw_at lw_m9 59 rfl) rfl
theorem q2111 : (Jvm.Cond.methodLink "FigureKneeLaw" (204 : Nat) ({ cls := "FigureKneeModel", name := "looks", desc := "(III)I" } : Jvm.MethodName)) ∈ lw_all := lw_g (lw_at lw_m9 70 rfl) rfl
theorem q2121 : (Jvm.Cond.methodLink "FigureKneeLaw" (208 : Nat) ({ cls := "FigureKneeModel", name := "verdict", desc := "(II)I" } : Jvm.MethodName)) ∈ lw_all := lw_g (lw_at lw_m9 80 rfl) rfl
theorem q2125 : (Jvm.Cond.methodLink "FigureKneeLaw" (213 : Nat) ({ cls := "FigureKneeModel", name := "odds", desc := "(IIIZ)J" } : Jvm.MethodName)) ∈ lw_all := lw_g (lw_at lw_m9 84 rfl) rfl
theorem q2133 : (Jvm.Cond.methodLink "FigureKneeLaw" (217 : Nat) ({ cls := "FigureKneeModel", name := "mean", desc := "(IIZ)J" } : Jvm.MethodName)) ∈ lw_all := lw_g (lw_at lw_m9 92 rfl) rfl
theorem q2137 : (Jvm.Cond.methodLink "FigureKneeLaw" (221 : Nat) ({ cls := "FigureKneeModel", name := "drawn", desc := "(III)I" } : Jvm.MethodName)) ∈ lw_all := lw_g (lw_at lw_m9 96 rfl) rfl
theorem q2141 : (Jvm.Cond.methodLink "FigureKneeLaw" (225 : Nat) ({ cls := "FigureKneeModel", name := "season", desc := "()I" } : Jvm.MethodName)) ∈ lw_all := lw_g (lw_at lw_m9 100 rfl) rfl
theorem q2149 : (Jvm.Cond.methodLink "FigureKneeLaw" (229 : Nat) ({ cls := "FigureKneeModel", name := "change", desc := "(I)I" } : Jvm.MethodName)) ∈ lw_all := lw_g (lw_at lw_m9 108 rfl) rfl
theorem q2153 : (Jvm.Cond.methodLink "FigureKneeLaw" (234 : Nat) ({ cls := "FigureKneeModel", name := "step", desc := "(II)Z" } : Jvm.MethodName)) ∈ lw_all := lw_g (lw_at lw_m9 112 rfl) rfl
theorem q2161 : (Jvm.Cond.methodLink "FigureKneeLaw" (238 : Nat) ({ cls := "FigureKneeModel", name := "pay", desc := "(III)I" } : Jvm.MethodName)) ∈ lw_all := lw_g (lw_at lw_m9 120 rfl) rfl
theorem q2165 : (Jvm.Cond.methodLink "FigureKneeLaw" (243 : Nat) ({ cls := "FigureKneeModel", name := "undo", desc := "()Z" } : Jvm.MethodName)) ∈ lw_all := lw_g (lw_at lw_m9 124 rfl) rfl
theorem q2169 : (Jvm.Cond.methodLink "FigureKneeLaw" (247 : Nat) ({ cls := "FigureKneeModel", name := "image", desc := "()I" } : Jvm.MethodName)) ∈ lw_all := lw_g (lw_at lw_m9 128 rfl) rfl
theorem q2173 : (Jvm.Cond.methodLink "FigureKneeLaw" (252 : Nat) ({ cls := "FigureKneeModel", name := "back", desc := "(I)Z" } : Jvm.MethodName)) ∈ lw_all := lw_g (lw_at lw_m9 132 rfl) rfl
theorem q2177 : (Jvm.Cond.methodLink "FigureKneeLaw" (258 : Nat) ({ cls := "FigureKneeModel", name := "led", desc := "(I)I" } : Jvm.MethodName)) ∈ lw_all := lw_g (lw_at lw_m9 136 rfl) rfl
theorem q2181 : (Jvm.Cond.methodLink "FigureKneeLaw" (265 : Nat) ({ cls := "FigureKneeModel", name := "size", desc := "(I)I" } : Jvm.MethodName)) ∈ lw_all := lw_g (lw_at lw_m9 140 rfl) rfl
theorem q2185 : (Jvm.Cond.methodLink "FigureKneeLaw" (269 : Nat) ({ cls := "FigureKneeModel", name := "trouble", desc := "()I" } : Jvm.MethodName)) ∈ lw_all := lw_g (lw_at lw_m9 144 rfl) rfl

/-! FigureKnee$Reader -/
set_option maxRecDepth 100000
def RX3 : String := "FigureKnee$Reader"
def TX3 : u_T := fun k => match k with
  | 0 => ("FigureKnee$Reader", "tokens", "LFigureKnee$Tokens;", true)
  | 1 => ("FigureKnee$Reader", "pier", "LFigureKnee$Pier;", true)
  | 2 => ("FigureKnee$Reader", "now", "LFigureKnee$Token;", false)
  | 3 => ("FigureKnee$Reader", "fault", "I", false)
  | _ => ("FigureKnee$Reader", "place", "I", false)
def tyX3 : Nat → FieldType := fun k => match k with
  | 0 => .object "FigureKnee$Tokens"
  | 1 => .object "FigureKnee$Pier"
  | 2 => .object "FigureKnee$Token"
  | 3 => .int
  | _ => .int
abbrev wsX30 : List Cond := u_ws RX3 TX3 5
theorem nmX3 : ∀ a, a < 5 → ∀ b, b < 5 → a ≠ b → (TX3 a).2.1 ≠ (TX3 b).2.1 := by decide +kernel
theorem tyX3_ok : ∀ k, k < 5 → parseFieldDescriptor (TX3 k).2.2.1 = some (tyX3 k) := by decide +kernel
abbrev cX3_init : ByteArray := prog_10_method_1_code
def yX3_init : MethodName := ⟨RX3, "<init>", "(LFigureKnee$Tokens;)V"⟩
def dkwX3_init_1 : List UInt8 := [182, 0, 22, 181, 0, 28, 177]
abbrev dktX3_init_1 : List UInt8 := dkwX3_init_1 ++ []
def dkwX3_init_0 : List UInt8 := [42, 183, 0, 3, 42, 187, 0, 9, 89, 183, 0, 11, 181, 0, 12, 42, 43, 181, 0, 18, 42, 43]
abbrev dktX3_init_0 : List UInt8 := dkwX3_init_0 ++ dktX3_init_1
theorem dksX3_init_0 : cX3_init.data.toList.drop 0 = dktX3_init_0 := by decide +kernel
theorem dksX3_init_1 : cX3_init.data.toList.drop 22 = dktX3_init_1 := dk_seg dksX3_init_0 22 rfl rfl
theorem dX3_init_0 : decode cX3_init 0 = .ok (.aload_n 0, 1) := dk_42 (dk_at dksX3_init_0 0 rfl rfl)
theorem dX3_init_1 : decode cX3_init 1 = .ok (.invokespecial 3, 3) := dk_183 0 3 (dk_at dksX3_init_0 1 rfl rfl)
theorem dX3_init_4 : decode cX3_init 4 = .ok (.aload_n 0, 1) := dk_42 (dk_at dksX3_init_0 4 rfl rfl)
theorem dX3_init_5 : decode cX3_init 5 = .ok (.new 9, 3) := dk_187 0 9 (dk_at dksX3_init_0 5 rfl rfl)
theorem dX3_init_8 : decode cX3_init 8 = .ok (.dup, 1) := dk_89 (dk_at dksX3_init_0 8 rfl rfl)
theorem dX3_init_9 : decode cX3_init 9 = .ok (.invokespecial 11, 3) := dk_183 0 11 (dk_at dksX3_init_0 9 rfl rfl)
theorem dX3_init_12 : decode cX3_init 12 = .ok (.putfield 12, 3) := dk_181 0 12 (dk_at dksX3_init_0 12 rfl rfl)
theorem dX3_init_15 : decode cX3_init 15 = .ok (.aload_n 0, 1) := dk_42 (dk_at dksX3_init_0 15 rfl rfl)
theorem dX3_init_16 : decode cX3_init 16 = .ok (.aload_n 1, 1) := dk_43 (dk_at dksX3_init_0 16 rfl rfl)
theorem dX3_init_17 : decode cX3_init 17 = .ok (.putfield 18, 3) := dk_181 0 18 (dk_at dksX3_init_0 17 rfl rfl)
theorem dX3_init_20 : decode cX3_init 20 = .ok (.aload_n 0, 1) := dk_42 (dk_at dksX3_init_0 20 rfl rfl)
theorem dX3_init_21 : decode cX3_init 21 = .ok (.aload_n 1, 1) := dk_43 (dk_at dksX3_init_0 21 rfl rfl)
theorem dX3_init_22 : decode cX3_init 22 = .ok (.invokevirtual 22, 3) := dk_182 0 22 (dk_at dksX3_init_1 0 rfl rfl)
theorem dX3_init_25 : decode cX3_init 25 = .ok (.putfield 28, 3) := dk_181 0 28 (dk_at dksX3_init_1 3 rfl rfl)
theorem dX3_init_28 : decode cX3_init 28 = .ok (.return_, 1) := dk_177 (dk_at dksX3_init_1 6 rfl rfl)
abbrev cX3_read : ByteArray := prog_10_method_12_code
def yX3_read : MethodName := ⟨RX3, "read", "()LFigureKnee$Pier;"⟩
def dkwX3_read_3 : List UInt8 := [176]
abbrev dktX3_read_3 : List UInt8 := dkwX3_read_3 ++ []
def dkwX3_read_2 : List UInt8 := [153, 0, 9, 42, 16, 6, 182, 0, 56, 42, 182, 0, 36, 153, 0, 7, 1, 167, 0, 7, 42, 180, 0, 12]
abbrev dktX3_read_2 : List UInt8 := dkwX3_read_2 ++ dktX3_read_3
def dkwX3_read_1 : List UInt8 := [182, 0, 56, 42, 180, 0, 12, 180, 0, 99, 2, 159, 0, 16, 42, 180, 0, 12, 180, 0, 102, 182, 0, 106]
abbrev dktX3_read_1 : List UInt8 := dkwX3_read_1 ++ dktX3_read_2
def dkwX3_read_0 : List UInt8 := [42, 182, 0, 93, 42, 182, 0, 96, 154, 255, 248, 42, 180, 0, 28, 180, 0, 46, 4, 159, 0, 8, 42, 4]
abbrev dktX3_read_0 : List UInt8 := dkwX3_read_0 ++ dktX3_read_1
theorem dksX3_read_0 : cX3_read.data.toList.drop 0 = dktX3_read_0 := by decide +kernel
theorem dksX3_read_1 : cX3_read.data.toList.drop 24 = dktX3_read_1 := dk_seg dksX3_read_0 24 rfl rfl
theorem dksX3_read_2 : cX3_read.data.toList.drop 48 = dktX3_read_2 := dk_seg dksX3_read_1 24 rfl rfl
theorem dksX3_read_3 : cX3_read.data.toList.drop 72 = dktX3_read_3 := dk_seg dksX3_read_2 24 rfl rfl
theorem dX3_read_0 : decode cX3_read 0 = .ok (.aload_n 0, 1) := dk_42 (dk_at dksX3_read_0 0 rfl rfl)
theorem dX3_read_1 : decode cX3_read 1 = .ok (.invokevirtual 93, 3) := dk_182 0 93 (dk_at dksX3_read_0 1 rfl rfl)
theorem dX3_read_4 : decode cX3_read 4 = .ok (.aload_n 0, 1) := dk_42 (dk_at dksX3_read_0 4 rfl rfl)
theorem dX3_read_5 : decode cX3_read 5 = .ok (.invokevirtual 96, 3) := dk_182 0 96 (dk_at dksX3_read_0 5 rfl rfl)
theorem dX3_read_8 : decode cX3_read 8 = .ok (.ifCond .ne (-8), 3) := dk_154 255 248 (dk_at dksX3_read_0 8 rfl rfl)
theorem dX3_read_11 : decode cX3_read 11 = .ok (.aload_n 0, 1) := dk_42 (dk_at dksX3_read_0 11 rfl rfl)
theorem dX3_read_12 : decode cX3_read 12 = .ok (.getfield 28, 3) := dk_180 0 28 (dk_at dksX3_read_0 12 rfl rfl)
theorem dX3_read_15 : decode cX3_read 15 = .ok (.getfield 46, 3) := dk_180 0 46 (dk_at dksX3_read_0 15 rfl rfl)
theorem dX3_read_18 : decode cX3_read 18 = .ok (.iconst 1, 1) := dk_4 (dk_at dksX3_read_0 18 rfl rfl)
theorem dX3_read_19 : decode cX3_read 19 = .ok (.if_icmp .eq 8, 3) := dk_159 0 8 (dk_at dksX3_read_0 19 rfl rfl)
theorem dX3_read_22 : decode cX3_read 22 = .ok (.aload_n 0, 1) := dk_42 (dk_at dksX3_read_0 22 rfl rfl)
theorem dX3_read_23 : decode cX3_read 23 = .ok (.iconst 1, 1) := dk_4 (dk_at dksX3_read_0 23 rfl rfl)
theorem dX3_read_24 : decode cX3_read 24 = .ok (.invokevirtual 56, 3) := dk_182 0 56 (dk_at dksX3_read_1 0 rfl rfl)
theorem dX3_read_27 : decode cX3_read 27 = .ok (.aload_n 0, 1) := dk_42 (dk_at dksX3_read_1 3 rfl rfl)
theorem dX3_read_28 : decode cX3_read 28 = .ok (.getfield 12, 3) := dk_180 0 12 (dk_at dksX3_read_1 4 rfl rfl)
theorem dX3_read_31 : decode cX3_read 31 = .ok (.getfield 99, 3) := dk_180 0 99 (dk_at dksX3_read_1 7 rfl rfl)
theorem dX3_read_34 : decode cX3_read 34 = .ok (.iconst (-1), 1) := dk_2 (dk_at dksX3_read_1 10 rfl rfl)
theorem dX3_read_35 : decode cX3_read 35 = .ok (.if_icmp .eq 16, 3) := dk_159 0 16 (dk_at dksX3_read_1 11 rfl rfl)
theorem dX3_read_38 : decode cX3_read 38 = .ok (.aload_n 0, 1) := dk_42 (dk_at dksX3_read_1 14 rfl rfl)
theorem dX3_read_39 : decode cX3_read 39 = .ok (.getfield 12, 3) := dk_180 0 12 (dk_at dksX3_read_1 15 rfl rfl)
theorem dX3_read_42 : decode cX3_read 42 = .ok (.getfield 102, 3) := dk_180 0 102 (dk_at dksX3_read_1 18 rfl rfl)
theorem dX3_read_45 : decode cX3_read 45 = .ok (.invokevirtual 106, 3) := dk_182 0 106 (dk_at dksX3_read_1 21 rfl rfl)
theorem dX3_read_48 : decode cX3_read 48 = .ok (.ifCond .eq 9, 3) := dk_153 0 9 (dk_at dksX3_read_2 0 rfl rfl)
theorem dX3_read_51 : decode cX3_read 51 = .ok (.aload_n 0, 1) := dk_42 (dk_at dksX3_read_2 3 rfl rfl)
theorem dX3_read_52 : decode cX3_read 52 = .ok (.bipush 6, 2) := dk_16 6 (dk_at dksX3_read_2 4 rfl rfl)
theorem dX3_read_54 : decode cX3_read 54 = .ok (.invokevirtual 56, 3) := dk_182 0 56 (dk_at dksX3_read_2 6 rfl rfl)
theorem dX3_read_57 : decode cX3_read 57 = .ok (.aload_n 0, 1) := dk_42 (dk_at dksX3_read_2 9 rfl rfl)
theorem dX3_read_58 : decode cX3_read 58 = .ok (.invokevirtual 36, 3) := dk_182 0 36 (dk_at dksX3_read_2 10 rfl rfl)
theorem dX3_read_61 : decode cX3_read 61 = .ok (.ifCond .eq 7, 3) := dk_153 0 7 (dk_at dksX3_read_2 13 rfl rfl)
theorem dX3_read_64 : decode cX3_read 64 = .ok (.aconst_null, 1) := dk_1 (dk_at dksX3_read_2 16 rfl rfl)
theorem dX3_read_65 : decode cX3_read 65 = .ok (.goto 7, 3) := dk_167 0 7 (dk_at dksX3_read_2 17 rfl rfl)
theorem dX3_read_68 : decode cX3_read 68 = .ok (.aload_n 0, 1) := dk_42 (dk_at dksX3_read_2 20 rfl rfl)
theorem dX3_read_69 : decode cX3_read 69 = .ok (.getfield 12, 3) := dk_180 0 12 (dk_at dksX3_read_2 21 rfl rfl)
theorem dX3_read_72 : decode cX3_read 72 = .ok (.areturn, 1) := dk_176 (dk_at dksX3_read_3 0 rfl rfl)
abbrev cX3_line : ByteArray := prog_10_method_13_code
def yX3_line : MethodName := ⟨RX3, "line", "()V"⟩
def dkwX3_line_10 : List UInt8 := [182, 0, 56, 177]
abbrev dktX3_line_10 : List UInt8 := dkwX3_line_10 ++ []
def dkwX3_line_9 : List UInt8 := [182, 0, 140, 167, 0, 22, 42, 182, 0, 142, 167, 0, 15, 42, 182, 0, 144, 167, 0, 8, 42, 4]
abbrev dktX3_line_9 : List UInt8 := dkwX3_line_9 ++ dktX3_line_10
def dkwX3_line_8 : List UInt8 := [42, 182, 0, 133, 167, 0, 43, 42, 182, 0, 136, 167, 0, 36, 42, 182, 0, 138, 167, 0, 29, 42]
abbrev dktX3_line_8 : List UInt8 := dkwX3_line_8 ++ dktX3_line_9
def dkwX3_line_7 : List UInt8 := [170, 0, 0, 0, 0, 80, 0, 0, 0, 0, 0, 0, 0, 5, 0, 0, 0, 38, 0, 0, 0, 45, 0, 0, 0, 52, 0, 0, 0, 59, 0, 0, 0, 66, 0, 0, 0, 73]
abbrev dktX3_line_7 : List UInt8 := dkwX3_line_7 ++ dktX3_line_8
def dkwX3_line_6 : List UInt8 := [18, 131, 182, 0, 119, 153, 0, 5, 8, 61, 28]
abbrev dktX3_line_6 : List UInt8 := dkwX3_line_6 ++ dktX3_line_7
def dkwX3_line_5 : List UInt8 := [153, 0, 33, 6, 61, 167, 0, 28, 43, 18, 129, 182, 0, 119, 153, 0, 19, 7, 61, 167, 0, 14, 43]
abbrev dktX3_line_5 : List UInt8 := dkwX3_line_5 ++ dktX3_line_6
def dkwX3_line_4 : List UInt8 := [61, 167, 0, 56, 43, 18, 125, 182, 0, 119, 153, 0, 47, 5, 61, 167, 0, 42, 43, 18, 127, 182, 0, 119]
abbrev dktX3_line_4 : List UInt8 := dkwX3_line_4 ++ dktX3_line_5
def dkwX3_line_3 : List UInt8 := [43, 18, 118, 182, 0, 119, 153, 0, 75, 3, 61, 167, 0, 70, 43, 18, 123, 182, 0, 119, 153, 0, 61, 4]
abbrev dktX3_line_3 : List UInt8 := dkwX3_line_3 ++ dktX3_line_4
def dkwX3_line_2 : List UInt8 := [171, 0, 0, 0, 0, 139, 0, 0, 0, 6, 205, 235, 38, 46, 0, 0, 0, 114, 222, 53, 17, 18, 0, 0, 0, 86, 0, 46, 252, 147, 0, 0, 0, 100, 0, 52, 98, 218, 0, 0, 0, 72, 0, 52, 128, 102, 0, 0, 0, 58, 5, 232, 240, 54, 0, 0, 0, 128]
abbrev dktX3_line_2 : List UInt8 := dkwX3_line_2 ++ dktX3_line_3
def dkwX3_line_1 : List UInt8 := [2, 61, 43, 182, 0, 113]
abbrev dktX3_line_1 : List UInt8 := dkwX3_line_1 ++ dktX3_line_2
def dkwX3_line_0 : List UInt8 := [42, 180, 0, 28, 180, 0, 46, 5, 160, 0, 13, 42, 180, 0, 28, 180, 0, 81, 167, 0, 5, 18, 111, 76]
abbrev dktX3_line_0 : List UInt8 := dkwX3_line_0 ++ dktX3_line_1
theorem dksX3_line_0 : cX3_line.data.toList.drop 0 = dktX3_line_0 := by decide +kernel
theorem dksX3_line_1 : cX3_line.data.toList.drop 24 = dktX3_line_1 := dk_seg dksX3_line_0 24 rfl rfl
theorem dksX3_line_2 : cX3_line.data.toList.drop 30 = dktX3_line_2 := dk_seg dksX3_line_1 6 rfl rfl
theorem dksX3_line_3 : cX3_line.data.toList.drop 88 = dktX3_line_3 := dk_seg dksX3_line_2 58 rfl rfl
theorem dksX3_line_4 : cX3_line.data.toList.drop 112 = dktX3_line_4 := dk_seg dksX3_line_3 24 rfl rfl
theorem dksX3_line_5 : cX3_line.data.toList.drop 136 = dktX3_line_5 := dk_seg dksX3_line_4 24 rfl rfl
theorem dksX3_line_6 : cX3_line.data.toList.drop 159 = dktX3_line_6 := dk_seg dksX3_line_5 23 rfl rfl
theorem dksX3_line_7 : cX3_line.data.toList.drop 170 = dktX3_line_7 := dk_seg dksX3_line_6 11 rfl rfl
theorem dksX3_line_8 : cX3_line.data.toList.drop 208 = dktX3_line_8 := dk_seg dksX3_line_7 38 rfl rfl
theorem dksX3_line_9 : cX3_line.data.toList.drop 230 = dktX3_line_9 := dk_seg dksX3_line_8 22 rfl rfl
theorem dksX3_line_10 : cX3_line.data.toList.drop 252 = dktX3_line_10 := dk_seg dksX3_line_9 22 rfl rfl
theorem dX3_line_0 : decode cX3_line 0 = .ok (.aload_n 0, 1) := dk_42 (dk_at dksX3_line_0 0 rfl rfl)
theorem dX3_line_1 : decode cX3_line 1 = .ok (.getfield 28, 3) := dk_180 0 28 (dk_at dksX3_line_0 1 rfl rfl)
theorem dX3_line_4 : decode cX3_line 4 = .ok (.getfield 46, 3) := dk_180 0 46 (dk_at dksX3_line_0 4 rfl rfl)
theorem dX3_line_7 : decode cX3_line 7 = .ok (.iconst 2, 1) := dk_5 (dk_at dksX3_line_0 7 rfl rfl)
theorem dX3_line_8 : decode cX3_line 8 = .ok (.if_icmp .ne 13, 3) := dk_160 0 13 (dk_at dksX3_line_0 8 rfl rfl)
theorem dX3_line_11 : decode cX3_line 11 = .ok (.aload_n 0, 1) := dk_42 (dk_at dksX3_line_0 11 rfl rfl)
theorem dX3_line_12 : decode cX3_line 12 = .ok (.getfield 28, 3) := dk_180 0 28 (dk_at dksX3_line_0 12 rfl rfl)
theorem dX3_line_15 : decode cX3_line 15 = .ok (.getfield 81, 3) := dk_180 0 81 (dk_at dksX3_line_0 15 rfl rfl)
theorem dX3_line_18 : decode cX3_line 18 = .ok (.goto 5, 3) := dk_167 0 5 (dk_at dksX3_line_0 18 rfl rfl)
theorem dX3_line_21 : decode cX3_line 21 = .ok (.ldc 111, 2) := dk_18 111 (dk_at dksX3_line_0 21 rfl rfl)
theorem dX3_line_23 : decode cX3_line 23 = .ok (.astore_n 1, 1) := dk_76 (dk_at dksX3_line_0 23 rfl rfl)
theorem dX3_line_24 : decode cX3_line 24 = .ok (.iconst (-1), 1) := dk_2 (dk_at dksX3_line_1 0 rfl rfl)
theorem dX3_line_25 : decode cX3_line 25 = .ok (.istore_n 2, 1) := dk_61 (dk_at dksX3_line_1 1 rfl rfl)
theorem dX3_line_26 : decode cX3_line 26 = .ok (.aload_n 1, 1) := dk_43 (dk_at dksX3_line_1 2 rfl rfl)
theorem dX3_line_27 : decode cX3_line 27 = .ok (.invokevirtual 113, 3) := dk_182 0 113 (dk_at dksX3_line_1 3 rfl rfl)
theorem dX3_line_30 : decode cX3_line 30 = .ok (.lookupswitch 139 #[(-840227282, 114), (-566947566, 86), (3079315, 100), (3433178, 72), (3440742, 58), (99151926, 128)], 58) := by decide +kernel
theorem dX3_line_88 : decode cX3_line 88 = .ok (.aload_n 1, 1) := dk_43 (dk_at dksX3_line_3 0 rfl rfl)
theorem dX3_line_89 : decode cX3_line 89 = .ok (.ldc 118, 2) := dk_18 118 (dk_at dksX3_line_3 1 rfl rfl)
theorem dX3_line_91 : decode cX3_line 91 = .ok (.invokevirtual 119, 3) := dk_182 0 119 (dk_at dksX3_line_3 3 rfl rfl)
theorem dX3_line_94 : decode cX3_line 94 = .ok (.ifCond .eq 75, 3) := dk_153 0 75 (dk_at dksX3_line_3 6 rfl rfl)
theorem dX3_line_97 : decode cX3_line 97 = .ok (.iconst 0, 1) := dk_3 (dk_at dksX3_line_3 9 rfl rfl)
theorem dX3_line_98 : decode cX3_line 98 = .ok (.istore_n 2, 1) := dk_61 (dk_at dksX3_line_3 10 rfl rfl)
theorem dX3_line_99 : decode cX3_line 99 = .ok (.goto 70, 3) := dk_167 0 70 (dk_at dksX3_line_3 11 rfl rfl)
theorem dX3_line_102 : decode cX3_line 102 = .ok (.aload_n 1, 1) := dk_43 (dk_at dksX3_line_3 14 rfl rfl)
theorem dX3_line_103 : decode cX3_line 103 = .ok (.ldc 123, 2) := dk_18 123 (dk_at dksX3_line_3 15 rfl rfl)
theorem dX3_line_105 : decode cX3_line 105 = .ok (.invokevirtual 119, 3) := dk_182 0 119 (dk_at dksX3_line_3 17 rfl rfl)
theorem dX3_line_108 : decode cX3_line 108 = .ok (.ifCond .eq 61, 3) := dk_153 0 61 (dk_at dksX3_line_3 20 rfl rfl)
theorem dX3_line_111 : decode cX3_line 111 = .ok (.iconst 1, 1) := dk_4 (dk_at dksX3_line_3 23 rfl rfl)
theorem dX3_line_112 : decode cX3_line 112 = .ok (.istore_n 2, 1) := dk_61 (dk_at dksX3_line_4 0 rfl rfl)
theorem dX3_line_113 : decode cX3_line 113 = .ok (.goto 56, 3) := dk_167 0 56 (dk_at dksX3_line_4 1 rfl rfl)
theorem dX3_line_116 : decode cX3_line 116 = .ok (.aload_n 1, 1) := dk_43 (dk_at dksX3_line_4 4 rfl rfl)
theorem dX3_line_117 : decode cX3_line 117 = .ok (.ldc 125, 2) := dk_18 125 (dk_at dksX3_line_4 5 rfl rfl)
theorem dX3_line_119 : decode cX3_line 119 = .ok (.invokevirtual 119, 3) := dk_182 0 119 (dk_at dksX3_line_4 7 rfl rfl)
theorem dX3_line_122 : decode cX3_line 122 = .ok (.ifCond .eq 47, 3) := dk_153 0 47 (dk_at dksX3_line_4 10 rfl rfl)
theorem dX3_line_125 : decode cX3_line 125 = .ok (.iconst 2, 1) := dk_5 (dk_at dksX3_line_4 13 rfl rfl)
theorem dX3_line_126 : decode cX3_line 126 = .ok (.istore_n 2, 1) := dk_61 (dk_at dksX3_line_4 14 rfl rfl)
theorem dX3_line_127 : decode cX3_line 127 = .ok (.goto 42, 3) := dk_167 0 42 (dk_at dksX3_line_4 15 rfl rfl)
theorem dX3_line_130 : decode cX3_line 130 = .ok (.aload_n 1, 1) := dk_43 (dk_at dksX3_line_4 18 rfl rfl)
theorem dX3_line_131 : decode cX3_line 131 = .ok (.ldc 127, 2) := dk_18 127 (dk_at dksX3_line_4 19 rfl rfl)
theorem dX3_line_133 : decode cX3_line 133 = .ok (.invokevirtual 119, 3) := dk_182 0 119 (dk_at dksX3_line_4 21 rfl rfl)
theorem dX3_line_136 : decode cX3_line 136 = .ok (.ifCond .eq 33, 3) := dk_153 0 33 (dk_at dksX3_line_5 0 rfl rfl)
theorem dX3_line_139 : decode cX3_line 139 = .ok (.iconst 3, 1) := dk_6 (dk_at dksX3_line_5 3 rfl rfl)
theorem dX3_line_140 : decode cX3_line 140 = .ok (.istore_n 2, 1) := dk_61 (dk_at dksX3_line_5 4 rfl rfl)
theorem dX3_line_141 : decode cX3_line 141 = .ok (.goto 28, 3) := dk_167 0 28 (dk_at dksX3_line_5 5 rfl rfl)
theorem dX3_line_144 : decode cX3_line 144 = .ok (.aload_n 1, 1) := dk_43 (dk_at dksX3_line_5 8 rfl rfl)
theorem dX3_line_145 : decode cX3_line 145 = .ok (.ldc 129, 2) := dk_18 129 (dk_at dksX3_line_5 9 rfl rfl)
theorem dX3_line_147 : decode cX3_line 147 = .ok (.invokevirtual 119, 3) := dk_182 0 119 (dk_at dksX3_line_5 11 rfl rfl)
theorem dX3_line_150 : decode cX3_line 150 = .ok (.ifCond .eq 19, 3) := dk_153 0 19 (dk_at dksX3_line_5 14 rfl rfl)
theorem dX3_line_153 : decode cX3_line 153 = .ok (.iconst 4, 1) := dk_7 (dk_at dksX3_line_5 17 rfl rfl)
theorem dX3_line_154 : decode cX3_line 154 = .ok (.istore_n 2, 1) := dk_61 (dk_at dksX3_line_5 18 rfl rfl)
theorem dX3_line_155 : decode cX3_line 155 = .ok (.goto 14, 3) := dk_167 0 14 (dk_at dksX3_line_5 19 rfl rfl)
theorem dX3_line_158 : decode cX3_line 158 = .ok (.aload_n 1, 1) := dk_43 (dk_at dksX3_line_5 22 rfl rfl)
theorem dX3_line_159 : decode cX3_line 159 = .ok (.ldc 131, 2) := dk_18 131 (dk_at dksX3_line_6 0 rfl rfl)
theorem dX3_line_161 : decode cX3_line 161 = .ok (.invokevirtual 119, 3) := dk_182 0 119 (dk_at dksX3_line_6 2 rfl rfl)
theorem dX3_line_164 : decode cX3_line 164 = .ok (.ifCond .eq 5, 3) := dk_153 0 5 (dk_at dksX3_line_6 5 rfl rfl)
theorem dX3_line_167 : decode cX3_line 167 = .ok (.iconst 5, 1) := dk_8 (dk_at dksX3_line_6 8 rfl rfl)
theorem dX3_line_168 : decode cX3_line 168 = .ok (.istore_n 2, 1) := dk_61 (dk_at dksX3_line_6 9 rfl rfl)
theorem dX3_line_169 : decode cX3_line 169 = .ok (.iload_n 2, 1) := dk_28 (dk_at dksX3_line_6 10 rfl rfl)
theorem dX3_line_170 : decode cX3_line 170 = .ok (.tableswitch 80 0 5 #[38, 45, 52, 59, 66, 73], 38) := by decide +kernel
theorem dX3_line_208 : decode cX3_line 208 = .ok (.aload_n 0, 1) := dk_42 (dk_at dksX3_line_8 0 rfl rfl)
theorem dX3_line_209 : decode cX3_line 209 = .ok (.invokevirtual 133, 3) := dk_182 0 133 (dk_at dksX3_line_8 1 rfl rfl)
theorem dX3_line_212 : decode cX3_line 212 = .ok (.goto 43, 3) := dk_167 0 43 (dk_at dksX3_line_8 4 rfl rfl)
theorem dX3_line_215 : decode cX3_line 215 = .ok (.aload_n 0, 1) := dk_42 (dk_at dksX3_line_8 7 rfl rfl)
theorem dX3_line_216 : decode cX3_line 216 = .ok (.invokevirtual 136, 3) := dk_182 0 136 (dk_at dksX3_line_8 8 rfl rfl)
theorem dX3_line_219 : decode cX3_line 219 = .ok (.goto 36, 3) := dk_167 0 36 (dk_at dksX3_line_8 11 rfl rfl)
theorem dX3_line_222 : decode cX3_line 222 = .ok (.aload_n 0, 1) := dk_42 (dk_at dksX3_line_8 14 rfl rfl)
theorem dX3_line_223 : decode cX3_line 223 = .ok (.invokevirtual 138, 3) := dk_182 0 138 (dk_at dksX3_line_8 15 rfl rfl)
theorem dX3_line_226 : decode cX3_line 226 = .ok (.goto 29, 3) := dk_167 0 29 (dk_at dksX3_line_8 18 rfl rfl)
theorem dX3_line_229 : decode cX3_line 229 = .ok (.aload_n 0, 1) := dk_42 (dk_at dksX3_line_8 21 rfl rfl)
theorem dX3_line_230 : decode cX3_line 230 = .ok (.invokevirtual 140, 3) := dk_182 0 140 (dk_at dksX3_line_9 0 rfl rfl)
theorem dX3_line_233 : decode cX3_line 233 = .ok (.goto 22, 3) := dk_167 0 22 (dk_at dksX3_line_9 3 rfl rfl)
theorem dX3_line_236 : decode cX3_line 236 = .ok (.aload_n 0, 1) := dk_42 (dk_at dksX3_line_9 6 rfl rfl)
theorem dX3_line_237 : decode cX3_line 237 = .ok (.invokevirtual 142, 3) := dk_182 0 142 (dk_at dksX3_line_9 7 rfl rfl)
theorem dX3_line_240 : decode cX3_line 240 = .ok (.goto 15, 3) := dk_167 0 15 (dk_at dksX3_line_9 10 rfl rfl)
theorem dX3_line_243 : decode cX3_line 243 = .ok (.aload_n 0, 1) := dk_42 (dk_at dksX3_line_9 13 rfl rfl)
theorem dX3_line_244 : decode cX3_line 244 = .ok (.invokevirtual 144, 3) := dk_182 0 144 (dk_at dksX3_line_9 14 rfl rfl)
theorem dX3_line_247 : decode cX3_line 247 = .ok (.goto 8, 3) := dk_167 0 8 (dk_at dksX3_line_9 17 rfl rfl)
theorem dX3_line_250 : decode cX3_line 250 = .ok (.aload_n 0, 1) := dk_42 (dk_at dksX3_line_9 20 rfl rfl)
theorem dX3_line_251 : decode cX3_line 251 = .ok (.iconst 1, 1) := dk_4 (dk_at dksX3_line_9 21 rfl rfl)
theorem dX3_line_252 : decode cX3_line 252 = .ok (.invokevirtual 56, 3) := dk_182 0 56 (dk_at dksX3_line_10 0 rfl rfl)
theorem dX3_line_255 : decode cX3_line 255 = .ok (.return_, 1) := dk_177 (dk_at dksX3_line_10 3 rfl rfl)
abbrev cX3_pierLine : ByteArray := prog_10_method_15_code
def yX3_pierLine : MethodName := ⟨RX3, "pierLine", "()V"⟩
def dkwX3_pierLine_2 : List UInt8 := [42, 180, 0, 12, 27, 181, 0, 99, 42, 180, 0, 12, 28, 181, 0, 153, 177]
abbrev dktX3_pierLine_2 : List UInt8 := dkwX3_pierLine_2 ++ []
def dkwX3_pierLine_1 : List UInt8 := [16, 99, 182, 0, 147, 60, 42, 18, 151, 3, 16, 100, 182, 0, 147, 61, 42, 182, 0, 36, 153, 0, 4, 177]
abbrev dktX3_pierLine_1 : List UInt8 := dkwX3_pierLine_1 ++ dktX3_pierLine_2
def dkwX3_pierLine_0 : List UInt8 := [42, 180, 0, 12, 180, 0, 99, 2, 159, 0, 8, 42, 6, 182, 0, 56, 42, 182, 0, 49, 42, 18, 146, 5]
abbrev dktX3_pierLine_0 : List UInt8 := dkwX3_pierLine_0 ++ dktX3_pierLine_1
theorem dksX3_pierLine_0 : cX3_pierLine.data.toList.drop 0 = dktX3_pierLine_0 := by decide +kernel
theorem dksX3_pierLine_1 : cX3_pierLine.data.toList.drop 24 = dktX3_pierLine_1 := dk_seg dksX3_pierLine_0 24 rfl rfl
theorem dksX3_pierLine_2 : cX3_pierLine.data.toList.drop 48 = dktX3_pierLine_2 := dk_seg dksX3_pierLine_1 24 rfl rfl
theorem dX3_pierLine_0 : decode cX3_pierLine 0 = .ok (.aload_n 0, 1) := dk_42 (dk_at dksX3_pierLine_0 0 rfl rfl)
theorem dX3_pierLine_1 : decode cX3_pierLine 1 = .ok (.getfield 12, 3) := dk_180 0 12 (dk_at dksX3_pierLine_0 1 rfl rfl)
theorem dX3_pierLine_4 : decode cX3_pierLine 4 = .ok (.getfield 99, 3) := dk_180 0 99 (dk_at dksX3_pierLine_0 4 rfl rfl)
theorem dX3_pierLine_7 : decode cX3_pierLine 7 = .ok (.iconst (-1), 1) := dk_2 (dk_at dksX3_pierLine_0 7 rfl rfl)
theorem dX3_pierLine_8 : decode cX3_pierLine 8 = .ok (.if_icmp .eq 8, 3) := dk_159 0 8 (dk_at dksX3_pierLine_0 8 rfl rfl)
theorem dX3_pierLine_11 : decode cX3_pierLine 11 = .ok (.aload_n 0, 1) := dk_42 (dk_at dksX3_pierLine_0 11 rfl rfl)
theorem dX3_pierLine_12 : decode cX3_pierLine 12 = .ok (.iconst 3, 1) := dk_6 (dk_at dksX3_pierLine_0 12 rfl rfl)
theorem dX3_pierLine_13 : decode cX3_pierLine 13 = .ok (.invokevirtual 56, 3) := dk_182 0 56 (dk_at dksX3_pierLine_0 13 rfl rfl)
theorem dX3_pierLine_16 : decode cX3_pierLine 16 = .ok (.aload_n 0, 1) := dk_42 (dk_at dksX3_pierLine_0 16 rfl rfl)
theorem dX3_pierLine_17 : decode cX3_pierLine 17 = .ok (.invokevirtual 49, 3) := dk_182 0 49 (dk_at dksX3_pierLine_0 17 rfl rfl)
theorem dX3_pierLine_20 : decode cX3_pierLine 20 = .ok (.aload_n 0, 1) := dk_42 (dk_at dksX3_pierLine_0 20 rfl rfl)
theorem dX3_pierLine_21 : decode cX3_pierLine 21 = .ok (.ldc 146, 2) := dk_18 146 (dk_at dksX3_pierLine_0 21 rfl rfl)
theorem dX3_pierLine_23 : decode cX3_pierLine 23 = .ok (.iconst 2, 1) := dk_5 (dk_at dksX3_pierLine_0 23 rfl rfl)
theorem dX3_pierLine_24 : decode cX3_pierLine 24 = .ok (.bipush 99, 2) := dk_16 99 (dk_at dksX3_pierLine_1 0 rfl rfl)
theorem dX3_pierLine_26 : decode cX3_pierLine 26 = .ok (.invokevirtual 147, 3) := dk_182 0 147 (dk_at dksX3_pierLine_1 2 rfl rfl)
theorem dX3_pierLine_29 : decode cX3_pierLine 29 = .ok (.istore_n 1, 1) := dk_60 (dk_at dksX3_pierLine_1 5 rfl rfl)
theorem dX3_pierLine_30 : decode cX3_pierLine 30 = .ok (.aload_n 0, 1) := dk_42 (dk_at dksX3_pierLine_1 6 rfl rfl)
theorem dX3_pierLine_31 : decode cX3_pierLine 31 = .ok (.ldc 151, 2) := dk_18 151 (dk_at dksX3_pierLine_1 7 rfl rfl)
theorem dX3_pierLine_33 : decode cX3_pierLine 33 = .ok (.iconst 0, 1) := dk_3 (dk_at dksX3_pierLine_1 9 rfl rfl)
theorem dX3_pierLine_34 : decode cX3_pierLine 34 = .ok (.bipush 100, 2) := dk_16 100 (dk_at dksX3_pierLine_1 10 rfl rfl)
theorem dX3_pierLine_36 : decode cX3_pierLine 36 = .ok (.invokevirtual 147, 3) := dk_182 0 147 (dk_at dksX3_pierLine_1 12 rfl rfl)
theorem dX3_pierLine_39 : decode cX3_pierLine 39 = .ok (.istore_n 2, 1) := dk_61 (dk_at dksX3_pierLine_1 15 rfl rfl)
theorem dX3_pierLine_40 : decode cX3_pierLine 40 = .ok (.aload_n 0, 1) := dk_42 (dk_at dksX3_pierLine_1 16 rfl rfl)
theorem dX3_pierLine_41 : decode cX3_pierLine 41 = .ok (.invokevirtual 36, 3) := dk_182 0 36 (dk_at dksX3_pierLine_1 17 rfl rfl)
theorem dX3_pierLine_44 : decode cX3_pierLine 44 = .ok (.ifCond .eq 4, 3) := dk_153 0 4 (dk_at dksX3_pierLine_1 20 rfl rfl)
theorem dX3_pierLine_47 : decode cX3_pierLine 47 = .ok (.return_, 1) := dk_177 (dk_at dksX3_pierLine_1 23 rfl rfl)
theorem dX3_pierLine_48 : decode cX3_pierLine 48 = .ok (.aload_n 0, 1) := dk_42 (dk_at dksX3_pierLine_2 0 rfl rfl)
theorem dX3_pierLine_49 : decode cX3_pierLine 49 = .ok (.getfield 12, 3) := dk_180 0 12 (dk_at dksX3_pierLine_2 1 rfl rfl)
theorem dX3_pierLine_52 : decode cX3_pierLine 52 = .ok (.iload_n 1, 1) := dk_27 (dk_at dksX3_pierLine_2 4 rfl rfl)
theorem dX3_pierLine_53 : decode cX3_pierLine 53 = .ok (.putfield 99, 3) := dk_181 0 99 (dk_at dksX3_pierLine_2 5 rfl rfl)
theorem dX3_pierLine_56 : decode cX3_pierLine 56 = .ok (.aload_n 0, 1) := dk_42 (dk_at dksX3_pierLine_2 8 rfl rfl)
theorem dX3_pierLine_57 : decode cX3_pierLine 57 = .ok (.getfield 12, 3) := dk_180 0 12 (dk_at dksX3_pierLine_2 9 rfl rfl)
theorem dX3_pierLine_60 : decode cX3_pierLine 60 = .ok (.iload_n 2, 1) := dk_28 (dk_at dksX3_pierLine_2 12 rfl rfl)
theorem dX3_pierLine_61 : decode cX3_pierLine 61 = .ok (.putfield 153, 3) := dk_181 0 153 (dk_at dksX3_pierLine_2 13 rfl rfl)
theorem dX3_pierLine_64 : decode cX3_pierLine 64 = .ok (.return_, 1) := dk_177 (dk_at dksX3_pierLine_2 16 rfl rfl)
abbrev cX3_wrong : ByteArray := prog_10_method_3_code
def yX3_wrong : MethodName := ⟨RX3, "wrong", "(I)V"⟩
def dkwX3_wrong_1 : List UInt8 := [177]
abbrev dktX3_wrong_1 : List UInt8 := dkwX3_wrong_1 ++ []
def dkwX3_wrong_0 : List UInt8 := [42, 182, 0, 36, 153, 0, 4, 177, 42, 27, 181, 0, 32, 42, 42, 180, 0, 28, 180, 0, 40, 181, 0, 45]
abbrev dktX3_wrong_0 : List UInt8 := dkwX3_wrong_0 ++ dktX3_wrong_1
theorem dksX3_wrong_0 : cX3_wrong.data.toList.drop 0 = dktX3_wrong_0 := by decide +kernel
theorem dksX3_wrong_1 : cX3_wrong.data.toList.drop 24 = dktX3_wrong_1 := dk_seg dksX3_wrong_0 24 rfl rfl
theorem dX3_wrong_0 : decode cX3_wrong 0 = .ok (.aload_n 0, 1) := dk_42 (dk_at dksX3_wrong_0 0 rfl rfl)
theorem dX3_wrong_1 : decode cX3_wrong 1 = .ok (.invokevirtual 36, 3) := dk_182 0 36 (dk_at dksX3_wrong_0 1 rfl rfl)
theorem dX3_wrong_4 : decode cX3_wrong 4 = .ok (.ifCond .eq 4, 3) := dk_153 0 4 (dk_at dksX3_wrong_0 4 rfl rfl)
theorem dX3_wrong_7 : decode cX3_wrong 7 = .ok (.return_, 1) := dk_177 (dk_at dksX3_wrong_0 7 rfl rfl)
theorem dX3_wrong_8 : decode cX3_wrong 8 = .ok (.aload_n 0, 1) := dk_42 (dk_at dksX3_wrong_0 8 rfl rfl)
theorem dX3_wrong_9 : decode cX3_wrong 9 = .ok (.iload_n 1, 1) := dk_27 (dk_at dksX3_wrong_0 9 rfl rfl)
theorem dX3_wrong_10 : decode cX3_wrong 10 = .ok (.putfield 32, 3) := dk_181 0 32 (dk_at dksX3_wrong_0 10 rfl rfl)
theorem dX3_wrong_13 : decode cX3_wrong 13 = .ok (.aload_n 0, 1) := dk_42 (dk_at dksX3_wrong_0 13 rfl rfl)
theorem dX3_wrong_14 : decode cX3_wrong 14 = .ok (.aload_n 0, 1) := dk_42 (dk_at dksX3_wrong_0 14 rfl rfl)
theorem dX3_wrong_15 : decode cX3_wrong 15 = .ok (.getfield 28, 3) := dk_180 0 28 (dk_at dksX3_wrong_0 15 rfl rfl)
theorem dX3_wrong_18 : decode cX3_wrong 18 = .ok (.getfield 40, 3) := dk_180 0 40 (dk_at dksX3_wrong_0 18 rfl rfl)
theorem dX3_wrong_21 : decode cX3_wrong 21 = .ok (.putfield 45, 3) := dk_181 0 45 (dk_at dksX3_wrong_0 21 rfl rfl)
theorem dX3_wrong_24 : decode cX3_wrong 24 = .ok (.return_, 1) := dk_177 (dk_at dksX3_wrong_1 0 rfl rfl)
abbrev cX3_isOver : ByteArray := prog_10_method_2_code
def yX3_isOver : MethodName := ⟨RX3, "isOver", "()Z"⟩
def dkwX3_isOver_0 : List UInt8 := [42, 180, 0, 32, 158, 0, 7, 4, 167, 0, 4, 3, 172]
abbrev dktX3_isOver_0 : List UInt8 := dkwX3_isOver_0 ++ []
theorem dksX3_isOver_0 : cX3_isOver.data.toList.drop 0 = dktX3_isOver_0 := by decide +kernel
theorem dX3_isOver_0 : decode cX3_isOver 0 = .ok (.aload_n 0, 1) := dk_42 (dk_at dksX3_isOver_0 0 rfl rfl)
theorem dX3_isOver_1 : decode cX3_isOver 1 = .ok (.getfield 32, 3) := dk_180 0 32 (dk_at dksX3_isOver_0 1 rfl rfl)
theorem dX3_isOver_4 : decode cX3_isOver 4 = .ok (.ifCond .le 7, 3) := dk_158 0 7 (dk_at dksX3_isOver_0 4 rfl rfl)
theorem dX3_isOver_7 : decode cX3_isOver 7 = .ok (.iconst 1, 1) := dk_4 (dk_at dksX3_isOver_0 7 rfl rfl)
theorem dX3_isOver_8 : decode cX3_isOver 8 = .ok (.goto 4, 3) := dk_167 0 4 (dk_at dksX3_isOver_0 8 rfl rfl)
theorem dX3_isOver_11 : decode cX3_isOver 11 = .ok (.iconst 0, 1) := dk_3 (dk_at dksX3_isOver_0 11 rfl rfl)
theorem dX3_isOver_12 : decode cX3_isOver 12 = .ok (.ireturn, 1) := dk_172 (dk_at dksX3_isOver_0 12 rfl rfl)
abbrev cX3_on : ByteArray := prog_10_method_4_code
def yX3_on : MethodName := ⟨RX3, "on", "()V"⟩
def dkwX3_on_1 : List UInt8 := [182, 0, 22, 181, 0, 28, 177]
abbrev dktX3_on_1 : List UInt8 := dkwX3_on_1 ++ []
def dkwX3_on_0 : List UInt8 := [42, 182, 0, 36, 154, 0, 25, 42, 180, 0, 28, 180, 0, 46, 4, 159, 0, 14, 42, 42, 180, 0, 18]
abbrev dktX3_on_0 : List UInt8 := dkwX3_on_0 ++ dktX3_on_1
theorem dksX3_on_0 : cX3_on.data.toList.drop 0 = dktX3_on_0 := by decide +kernel
theorem dksX3_on_1 : cX3_on.data.toList.drop 23 = dktX3_on_1 := dk_seg dksX3_on_0 23 rfl rfl
theorem dX3_on_0 : decode cX3_on 0 = .ok (.aload_n 0, 1) := dk_42 (dk_at dksX3_on_0 0 rfl rfl)
theorem dX3_on_1 : decode cX3_on 1 = .ok (.invokevirtual 36, 3) := dk_182 0 36 (dk_at dksX3_on_0 1 rfl rfl)
theorem dX3_on_4 : decode cX3_on 4 = .ok (.ifCond .ne 25, 3) := dk_154 0 25 (dk_at dksX3_on_0 4 rfl rfl)
theorem dX3_on_7 : decode cX3_on 7 = .ok (.aload_n 0, 1) := dk_42 (dk_at dksX3_on_0 7 rfl rfl)
theorem dX3_on_8 : decode cX3_on 8 = .ok (.getfield 28, 3) := dk_180 0 28 (dk_at dksX3_on_0 8 rfl rfl)
theorem dX3_on_11 : decode cX3_on 11 = .ok (.getfield 46, 3) := dk_180 0 46 (dk_at dksX3_on_0 11 rfl rfl)
theorem dX3_on_14 : decode cX3_on 14 = .ok (.iconst 1, 1) := dk_4 (dk_at dksX3_on_0 14 rfl rfl)
theorem dX3_on_15 : decode cX3_on 15 = .ok (.if_icmp .eq 14, 3) := dk_159 0 14 (dk_at dksX3_on_0 15 rfl rfl)
theorem dX3_on_18 : decode cX3_on 18 = .ok (.aload_n 0, 1) := dk_42 (dk_at dksX3_on_0 18 rfl rfl)
theorem dX3_on_19 : decode cX3_on 19 = .ok (.aload_n 0, 1) := dk_42 (dk_at dksX3_on_0 19 rfl rfl)
theorem dX3_on_20 : decode cX3_on 20 = .ok (.getfield 18, 3) := dk_180 0 18 (dk_at dksX3_on_0 20 rfl rfl)
theorem dX3_on_23 : decode cX3_on 23 = .ok (.invokevirtual 22, 3) := dk_182 0 22 (dk_at dksX3_on_1 0 rfl rfl)
theorem dX3_on_26 : decode cX3_on 26 = .ok (.putfield 28, 3) := dk_181 0 28 (dk_at dksX3_on_1 3 rfl rfl)
theorem dX3_on_29 : decode cX3_on 29 = .ok (.return_, 1) := dk_177 (dk_at dksX3_on_1 6 rfl rfl)
abbrev cX3_part : ByteArray := prog_10_method_9_code
def yX3_part : MethodName := ⟨RX3, "part", "(Ljava/lang/String;II)I"⟩
def dkwX3_part_0 : List UInt8 := [42, 43, 182, 0, 71, 42, 28, 29, 182, 0, 75, 172]
abbrev dktX3_part_0 : List UInt8 := dkwX3_part_0 ++ []
theorem dksX3_part_0 : cX3_part.data.toList.drop 0 = dktX3_part_0 := by decide +kernel
theorem dX3_part_0 : decode cX3_part 0 = .ok (.aload_n 0, 1) := dk_42 (dk_at dksX3_part_0 0 rfl rfl)
theorem dX3_part_1 : decode cX3_part 1 = .ok (.aload_n 1, 1) := dk_43 (dk_at dksX3_part_0 1 rfl rfl)
theorem dX3_part_2 : decode cX3_part 2 = .ok (.invokevirtual 71, 3) := dk_182 0 71 (dk_at dksX3_part_0 2 rfl rfl)
theorem dX3_part_5 : decode cX3_part 5 = .ok (.aload_n 0, 1) := dk_42 (dk_at dksX3_part_0 5 rfl rfl)
theorem dX3_part_6 : decode cX3_part 6 = .ok (.iload_n 2, 1) := dk_28 (dk_at dksX3_part_0 6 rfl rfl)
theorem dX3_part_7 : decode cX3_part 7 = .ok (.iload_n 3, 1) := dk_29 (dk_at dksX3_part_0 7 rfl rfl)
theorem dX3_part_8 : decode cX3_part 8 = .ok (.invokevirtual 75, 3) := dk_182 0 75 (dk_at dksX3_part_0 8 rfl rfl)
theorem dX3_part_11 : decode cX3_part 11 = .ok (.ireturn, 1) := dk_172 (dk_at dksX3_part_0 11 rfl rfl)
abbrev cX3_needs : ByteArray := prog_10_method_6_code
def yX3_needs : MethodName := ⟨RX3, "needs", "(Ljava/lang/String;)V"⟩
def dkwX3_needs_0 : List UInt8 := [42, 180, 0, 28, 43, 182, 0, 52, 154, 0, 8, 42, 4, 182, 0, 56, 42, 182, 0, 49, 177]
abbrev dktX3_needs_0 : List UInt8 := dkwX3_needs_0 ++ []
theorem dksX3_needs_0 : cX3_needs.data.toList.drop 0 = dktX3_needs_0 := by decide +kernel
theorem dX3_needs_0 : decode cX3_needs 0 = .ok (.aload_n 0, 1) := dk_42 (dk_at dksX3_needs_0 0 rfl rfl)
theorem dX3_needs_1 : decode cX3_needs 1 = .ok (.getfield 28, 3) := dk_180 0 28 (dk_at dksX3_needs_0 1 rfl rfl)
theorem dX3_needs_4 : decode cX3_needs 4 = .ok (.aload_n 1, 1) := dk_43 (dk_at dksX3_needs_0 4 rfl rfl)
theorem dX3_needs_5 : decode cX3_needs 5 = .ok (.invokevirtual 52, 3) := dk_182 0 52 (dk_at dksX3_needs_0 5 rfl rfl)
theorem dX3_needs_8 : decode cX3_needs 8 = .ok (.ifCond .ne 8, 3) := dk_154 0 8 (dk_at dksX3_needs_0 8 rfl rfl)
theorem dX3_needs_11 : decode cX3_needs 11 = .ok (.aload_n 0, 1) := dk_42 (dk_at dksX3_needs_0 11 rfl rfl)
theorem dX3_needs_12 : decode cX3_needs 12 = .ok (.iconst 1, 1) := dk_4 (dk_at dksX3_needs_0 12 rfl rfl)
theorem dX3_needs_13 : decode cX3_needs 13 = .ok (.invokevirtual 56, 3) := dk_182 0 56 (dk_at dksX3_needs_0 13 rfl rfl)
theorem dX3_needs_16 : decode cX3_needs 16 = .ok (.aload_n 0, 1) := dk_42 (dk_at dksX3_needs_0 16 rfl rfl)
theorem dX3_needs_17 : decode cX3_needs 17 = .ok (.invokevirtual 49, 3) := dk_182 0 49 (dk_at dksX3_needs_0 17 rfl rfl)
theorem dX3_needs_20 : decode cX3_needs 20 = .ok (.return_, 1) := dk_177 (dk_at dksX3_needs_0 20 rfl rfl)
abbrev cX3_whole : ByteArray := prog_10_method_8_code
def yX3_whole : MethodName := ⟨RX3, "whole", "(II)I"⟩
def dkwX3_whole_0 : List UInt8 := [42, 27, 28, 182, 0, 67, 62, 42, 182, 0, 49, 29, 172]
abbrev dktX3_whole_0 : List UInt8 := dkwX3_whole_0 ++ []
theorem dksX3_whole_0 : cX3_whole.data.toList.drop 0 = dktX3_whole_0 := by decide +kernel
theorem dX3_whole_0 : decode cX3_whole 0 = .ok (.aload_n 0, 1) := dk_42 (dk_at dksX3_whole_0 0 rfl rfl)
theorem dX3_whole_1 : decode cX3_whole 1 = .ok (.iload_n 1, 1) := dk_27 (dk_at dksX3_whole_0 1 rfl rfl)
theorem dX3_whole_2 : decode cX3_whole 2 = .ok (.iload_n 2, 1) := dk_28 (dk_at dksX3_whole_0 2 rfl rfl)
theorem dX3_whole_3 : decode cX3_whole 3 = .ok (.invokevirtual 67, 3) := dk_182 0 67 (dk_at dksX3_whole_0 3 rfl rfl)
theorem dX3_whole_6 : decode cX3_whole 6 = .ok (.istore_n 3, 1) := dk_62 (dk_at dksX3_whole_0 6 rfl rfl)
theorem dX3_whole_7 : decode cX3_whole 7 = .ok (.aload_n 0, 1) := dk_42 (dk_at dksX3_whole_0 7 rfl rfl)
theorem dX3_whole_8 : decode cX3_whole 8 = .ok (.invokevirtual 49, 3) := dk_182 0 49 (dk_at dksX3_whole_0 8 rfl rfl)
theorem dX3_whole_11 : decode cX3_whole 11 = .ok (.iload_n 3, 1) := dk_29 (dk_at dksX3_whole_0 11 rfl rfl)
theorem dX3_whole_12 : decode cX3_whole 12 = .ok (.ireturn, 1) := dk_172 (dk_at dksX3_whole_0 12 rfl rfl)
abbrev cX3_wholeAt : ByteArray := prog_10_method_7_code
def yX3_wholeAt : MethodName := ⟨RX3, "wholeAt", "(II)I"⟩
def dkwX3_wholeAt_1 : List UInt8 := [180, 0, 60, 27, 28, 184, 0, 63, 154, 0, 8, 42, 7, 182, 0, 56, 42, 180, 0, 28, 180, 0, 60, 172]
abbrev dktX3_wholeAt_1 : List UInt8 := dkwX3_wholeAt_1 ++ []
def dkwX3_wholeAt_0 : List UInt8 := [42, 180, 0, 28, 180, 0, 46, 6, 159, 0, 11, 42, 4, 182, 0, 56, 167, 0, 23, 42, 180, 0, 28]
abbrev dktX3_wholeAt_0 : List UInt8 := dkwX3_wholeAt_0 ++ dktX3_wholeAt_1
theorem dksX3_wholeAt_0 : cX3_wholeAt.data.toList.drop 0 = dktX3_wholeAt_0 := by decide +kernel
theorem dksX3_wholeAt_1 : cX3_wholeAt.data.toList.drop 23 = dktX3_wholeAt_1 := dk_seg dksX3_wholeAt_0 23 rfl rfl
theorem dX3_wholeAt_0 : decode cX3_wholeAt 0 = .ok (.aload_n 0, 1) := dk_42 (dk_at dksX3_wholeAt_0 0 rfl rfl)
theorem dX3_wholeAt_1 : decode cX3_wholeAt 1 = .ok (.getfield 28, 3) := dk_180 0 28 (dk_at dksX3_wholeAt_0 1 rfl rfl)
theorem dX3_wholeAt_4 : decode cX3_wholeAt 4 = .ok (.getfield 46, 3) := dk_180 0 46 (dk_at dksX3_wholeAt_0 4 rfl rfl)
theorem dX3_wholeAt_7 : decode cX3_wholeAt 7 = .ok (.iconst 3, 1) := dk_6 (dk_at dksX3_wholeAt_0 7 rfl rfl)
theorem dX3_wholeAt_8 : decode cX3_wholeAt 8 = .ok (.if_icmp .eq 11, 3) := dk_159 0 11 (dk_at dksX3_wholeAt_0 8 rfl rfl)
theorem dX3_wholeAt_11 : decode cX3_wholeAt 11 = .ok (.aload_n 0, 1) := dk_42 (dk_at dksX3_wholeAt_0 11 rfl rfl)
theorem dX3_wholeAt_12 : decode cX3_wholeAt 12 = .ok (.iconst 1, 1) := dk_4 (dk_at dksX3_wholeAt_0 12 rfl rfl)
theorem dX3_wholeAt_13 : decode cX3_wholeAt 13 = .ok (.invokevirtual 56, 3) := dk_182 0 56 (dk_at dksX3_wholeAt_0 13 rfl rfl)
theorem dX3_wholeAt_16 : decode cX3_wholeAt 16 = .ok (.goto 23, 3) := dk_167 0 23 (dk_at dksX3_wholeAt_0 16 rfl rfl)
theorem dX3_wholeAt_19 : decode cX3_wholeAt 19 = .ok (.aload_n 0, 1) := dk_42 (dk_at dksX3_wholeAt_0 19 rfl rfl)
theorem dX3_wholeAt_20 : decode cX3_wholeAt 20 = .ok (.getfield 28, 3) := dk_180 0 28 (dk_at dksX3_wholeAt_0 20 rfl rfl)
theorem dX3_wholeAt_23 : decode cX3_wholeAt 23 = .ok (.getfield 60, 3) := dk_180 0 60 (dk_at dksX3_wholeAt_1 0 rfl rfl)
theorem dX3_wholeAt_26 : decode cX3_wholeAt 26 = .ok (.iload_n 1, 1) := dk_27 (dk_at dksX3_wholeAt_1 3 rfl rfl)
theorem dX3_wholeAt_27 : decode cX3_wholeAt 27 = .ok (.iload_n 2, 1) := dk_28 (dk_at dksX3_wholeAt_1 4 rfl rfl)
theorem dX3_wholeAt_28 : decode cX3_wholeAt 28 = .ok (.invokestatic 63, 3) := dk_184 0 63 (dk_at dksX3_wholeAt_1 5 rfl rfl)
theorem dX3_wholeAt_31 : decode cX3_wholeAt 31 = .ok (.ifCond .ne 8, 3) := dk_154 0 8 (dk_at dksX3_wholeAt_1 8 rfl rfl)
theorem dX3_wholeAt_34 : decode cX3_wholeAt 34 = .ok (.aload_n 0, 1) := dk_42 (dk_at dksX3_wholeAt_1 11 rfl rfl)
theorem dX3_wholeAt_35 : decode cX3_wholeAt 35 = .ok (.iconst 4, 1) := dk_7 (dk_at dksX3_wholeAt_1 12 rfl rfl)
theorem dX3_wholeAt_36 : decode cX3_wholeAt 36 = .ok (.invokevirtual 56, 3) := dk_182 0 56 (dk_at dksX3_wholeAt_1 13 rfl rfl)
theorem dX3_wholeAt_39 : decode cX3_wholeAt 39 = .ok (.aload_n 0, 1) := dk_42 (dk_at dksX3_wholeAt_1 16 rfl rfl)
theorem dX3_wholeAt_40 : decode cX3_wholeAt 40 = .ok (.getfield 28, 3) := dk_180 0 28 (dk_at dksX3_wholeAt_1 17 rfl rfl)
theorem dX3_wholeAt_43 : decode cX3_wholeAt 43 = .ok (.getfield 60, 3) := dk_180 0 60 (dk_at dksX3_wholeAt_1 20 rfl rfl)
theorem dX3_wholeAt_46 : decode cX3_wholeAt 46 = .ok (.ireturn, 1) := dk_172 (dk_at dksX3_wholeAt_1 23 rfl rfl)
abbrev cX3_pair : ByteArray := prog_10_method_17_code
def yX3_pair : MethodName := ⟨RX3, "pair", "()V"⟩
def dkwX3_pair_5 : List UInt8 := [182, 0, 36, 154, 0, 15, 42, 180, 0, 12, 180, 0, 102, 43, 182, 0, 203, 87, 177]
abbrev dktX3_pair_5 : List UInt8 := dkwX3_pair_5 ++ []
def dkwX3_pair_4 : List UInt8 := [180, 0, 99, 182, 0, 147, 181, 0, 196, 43, 42, 18, 199, 3, 16, 20, 182, 0, 147, 181, 0, 201, 42]
abbrev dktX3_pair_4 : List UInt8 := dkwX3_pair_4 ++ dktX3_pair_5
def dkwX3_pair_3 : List UInt8 := [182, 0, 49, 43, 42, 182, 0, 187, 181, 0, 191, 42, 182, 0, 49, 43, 42, 18, 194, 3, 42, 180, 0, 12]
abbrev dktX3_pair_3 : List UInt8 := dkwX3_pair_3 ++ dktX3_pair_4
def dkwX3_pair_2 : List UInt8 := [159, 0, 8, 42, 6, 182, 0, 56, 187, 0, 183, 89, 42, 180, 0, 28, 180, 0, 81, 183, 0, 185, 76, 42]
abbrev dktX3_pair_2 : List UInt8 := dkwX3_pair_2 ++ dktX3_pair_3
def dkwX3_pair_1 : List UInt8 := [154, 0, 8, 42, 4, 182, 0, 56, 42, 180, 0, 12, 42, 180, 0, 28, 180, 0, 81, 182, 0, 85, 2]
abbrev dktX3_pair_1 : List UInt8 := dkwX3_pair_1 ++ dktX3_pair_2
def dkwX3_pair_0 : List UInt8 := [42, 42, 180, 0, 12, 180, 0, 102, 182, 0, 176, 8, 182, 0, 179, 42, 180, 0, 28, 182, 0, 78]
abbrev dktX3_pair_0 : List UInt8 := dkwX3_pair_0 ++ dktX3_pair_1
theorem dksX3_pair_0 : cX3_pair.data.toList.drop 0 = dktX3_pair_0 := by decide +kernel
theorem dksX3_pair_1 : cX3_pair.data.toList.drop 22 = dktX3_pair_1 := dk_seg dksX3_pair_0 22 rfl rfl
theorem dksX3_pair_2 : cX3_pair.data.toList.drop 45 = dktX3_pair_2 := dk_seg dksX3_pair_1 23 rfl rfl
theorem dksX3_pair_3 : cX3_pair.data.toList.drop 69 = dktX3_pair_3 := dk_seg dksX3_pair_2 24 rfl rfl
theorem dksX3_pair_4 : cX3_pair.data.toList.drop 93 = dktX3_pair_4 := dk_seg dksX3_pair_3 24 rfl rfl
theorem dksX3_pair_5 : cX3_pair.data.toList.drop 116 = dktX3_pair_5 := dk_seg dksX3_pair_4 23 rfl rfl
theorem dX3_pair_0 : decode cX3_pair 0 = .ok (.aload_n 0, 1) := dk_42 (dk_at dksX3_pair_0 0 rfl rfl)
theorem dX3_pair_1 : decode cX3_pair 1 = .ok (.aload_n 0, 1) := dk_42 (dk_at dksX3_pair_0 1 rfl rfl)
theorem dX3_pair_2 : decode cX3_pair 2 = .ok (.getfield 12, 3) := dk_180 0 12 (dk_at dksX3_pair_0 2 rfl rfl)
theorem dX3_pair_5 : decode cX3_pair 5 = .ok (.getfield 102, 3) := dk_180 0 102 (dk_at dksX3_pair_0 5 rfl rfl)
theorem dX3_pair_8 : decode cX3_pair 8 = .ok (.invokevirtual 176, 3) := dk_182 0 176 (dk_at dksX3_pair_0 8 rfl rfl)
theorem dX3_pair_11 : decode cX3_pair 11 = .ok (.iconst 5, 1) := dk_8 (dk_at dksX3_pair_0 11 rfl rfl)
theorem dX3_pair_12 : decode cX3_pair 12 = .ok (.invokevirtual 179, 3) := dk_182 0 179 (dk_at dksX3_pair_0 12 rfl rfl)
theorem dX3_pair_15 : decode cX3_pair 15 = .ok (.aload_n 0, 1) := dk_42 (dk_at dksX3_pair_0 15 rfl rfl)
theorem dX3_pair_16 : decode cX3_pair 16 = .ok (.getfield 28, 3) := dk_180 0 28 (dk_at dksX3_pair_0 16 rfl rfl)
theorem dX3_pair_19 : decode cX3_pair 19 = .ok (.invokevirtual 78, 3) := dk_182 0 78 (dk_at dksX3_pair_0 19 rfl rfl)
theorem dX3_pair_22 : decode cX3_pair 22 = .ok (.ifCond .ne 8, 3) := dk_154 0 8 (dk_at dksX3_pair_1 0 rfl rfl)
theorem dX3_pair_25 : decode cX3_pair 25 = .ok (.aload_n 0, 1) := dk_42 (dk_at dksX3_pair_1 3 rfl rfl)
theorem dX3_pair_26 : decode cX3_pair 26 = .ok (.iconst 1, 1) := dk_4 (dk_at dksX3_pair_1 4 rfl rfl)
theorem dX3_pair_27 : decode cX3_pair 27 = .ok (.invokevirtual 56, 3) := dk_182 0 56 (dk_at dksX3_pair_1 5 rfl rfl)
theorem dX3_pair_30 : decode cX3_pair 30 = .ok (.aload_n 0, 1) := dk_42 (dk_at dksX3_pair_1 8 rfl rfl)
theorem dX3_pair_31 : decode cX3_pair 31 = .ok (.getfield 12, 3) := dk_180 0 12 (dk_at dksX3_pair_1 9 rfl rfl)
theorem dX3_pair_34 : decode cX3_pair 34 = .ok (.aload_n 0, 1) := dk_42 (dk_at dksX3_pair_1 12 rfl rfl)
theorem dX3_pair_35 : decode cX3_pair 35 = .ok (.getfield 28, 3) := dk_180 0 28 (dk_at dksX3_pair_1 13 rfl rfl)
theorem dX3_pair_38 : decode cX3_pair 38 = .ok (.getfield 81, 3) := dk_180 0 81 (dk_at dksX3_pair_1 16 rfl rfl)
theorem dX3_pair_41 : decode cX3_pair 41 = .ok (.invokevirtual 85, 3) := dk_182 0 85 (dk_at dksX3_pair_1 19 rfl rfl)
theorem dX3_pair_44 : decode cX3_pair 44 = .ok (.iconst (-1), 1) := dk_2 (dk_at dksX3_pair_1 22 rfl rfl)
theorem dX3_pair_45 : decode cX3_pair 45 = .ok (.if_icmp .eq 8, 3) := dk_159 0 8 (dk_at dksX3_pair_2 0 rfl rfl)
theorem dX3_pair_48 : decode cX3_pair 48 = .ok (.aload_n 0, 1) := dk_42 (dk_at dksX3_pair_2 3 rfl rfl)
theorem dX3_pair_49 : decode cX3_pair 49 = .ok (.iconst 3, 1) := dk_6 (dk_at dksX3_pair_2 4 rfl rfl)
theorem dX3_pair_50 : decode cX3_pair 50 = .ok (.invokevirtual 56, 3) := dk_182 0 56 (dk_at dksX3_pair_2 5 rfl rfl)
theorem dX3_pair_53 : decode cX3_pair 53 = .ok (.new 183, 3) := dk_187 0 183 (dk_at dksX3_pair_2 8 rfl rfl)
theorem dX3_pair_56 : decode cX3_pair 56 = .ok (.dup, 1) := dk_89 (dk_at dksX3_pair_2 11 rfl rfl)
theorem dX3_pair_57 : decode cX3_pair 57 = .ok (.aload_n 0, 1) := dk_42 (dk_at dksX3_pair_2 12 rfl rfl)
theorem dX3_pair_58 : decode cX3_pair 58 = .ok (.getfield 28, 3) := dk_180 0 28 (dk_at dksX3_pair_2 13 rfl rfl)
theorem dX3_pair_61 : decode cX3_pair 61 = .ok (.getfield 81, 3) := dk_180 0 81 (dk_at dksX3_pair_2 16 rfl rfl)
theorem dX3_pair_64 : decode cX3_pair 64 = .ok (.invokespecial 185, 3) := dk_183 0 185 (dk_at dksX3_pair_2 19 rfl rfl)
theorem dX3_pair_67 : decode cX3_pair 67 = .ok (.astore_n 1, 1) := dk_76 (dk_at dksX3_pair_2 22 rfl rfl)
theorem dX3_pair_68 : decode cX3_pair 68 = .ok (.aload_n 0, 1) := dk_42 (dk_at dksX3_pair_2 23 rfl rfl)
theorem dX3_pair_69 : decode cX3_pair 69 = .ok (.invokevirtual 49, 3) := dk_182 0 49 (dk_at dksX3_pair_3 0 rfl rfl)
theorem dX3_pair_72 : decode cX3_pair 72 = .ok (.aload_n 1, 1) := dk_43 (dk_at dksX3_pair_3 3 rfl rfl)
theorem dX3_pair_73 : decode cX3_pair 73 = .ok (.aload_n 0, 1) := dk_42 (dk_at dksX3_pair_3 4 rfl rfl)
theorem dX3_pair_74 : decode cX3_pair 74 = .ok (.invokevirtual 187, 3) := dk_182 0 187 (dk_at dksX3_pair_3 5 rfl rfl)
theorem dX3_pair_77 : decode cX3_pair 77 = .ok (.putfield 191, 3) := dk_181 0 191 (dk_at dksX3_pair_3 8 rfl rfl)
theorem dX3_pair_80 : decode cX3_pair 80 = .ok (.aload_n 0, 1) := dk_42 (dk_at dksX3_pair_3 11 rfl rfl)
theorem dX3_pair_81 : decode cX3_pair 81 = .ok (.invokevirtual 49, 3) := dk_182 0 49 (dk_at dksX3_pair_3 12 rfl rfl)
theorem dX3_pair_84 : decode cX3_pair 84 = .ok (.aload_n 1, 1) := dk_43 (dk_at dksX3_pair_3 15 rfl rfl)
theorem dX3_pair_85 : decode cX3_pair 85 = .ok (.aload_n 0, 1) := dk_42 (dk_at dksX3_pair_3 16 rfl rfl)
theorem dX3_pair_86 : decode cX3_pair 86 = .ok (.ldc 194, 2) := dk_18 194 (dk_at dksX3_pair_3 17 rfl rfl)
theorem dX3_pair_88 : decode cX3_pair 88 = .ok (.iconst 0, 1) := dk_3 (dk_at dksX3_pair_3 19 rfl rfl)
theorem dX3_pair_89 : decode cX3_pair 89 = .ok (.aload_n 0, 1) := dk_42 (dk_at dksX3_pair_3 20 rfl rfl)
theorem dX3_pair_90 : decode cX3_pair 90 = .ok (.getfield 12, 3) := dk_180 0 12 (dk_at dksX3_pair_3 21 rfl rfl)
theorem dX3_pair_93 : decode cX3_pair 93 = .ok (.getfield 99, 3) := dk_180 0 99 (dk_at dksX3_pair_4 0 rfl rfl)
theorem dX3_pair_96 : decode cX3_pair 96 = .ok (.invokevirtual 147, 3) := dk_182 0 147 (dk_at dksX3_pair_4 3 rfl rfl)
theorem dX3_pair_99 : decode cX3_pair 99 = .ok (.putfield 196, 3) := dk_181 0 196 (dk_at dksX3_pair_4 6 rfl rfl)
theorem dX3_pair_102 : decode cX3_pair 102 = .ok (.aload_n 1, 1) := dk_43 (dk_at dksX3_pair_4 9 rfl rfl)
theorem dX3_pair_103 : decode cX3_pair 103 = .ok (.aload_n 0, 1) := dk_42 (dk_at dksX3_pair_4 10 rfl rfl)
theorem dX3_pair_104 : decode cX3_pair 104 = .ok (.ldc 199, 2) := dk_18 199 (dk_at dksX3_pair_4 11 rfl rfl)
theorem dX3_pair_106 : decode cX3_pair 106 = .ok (.iconst 0, 1) := dk_3 (dk_at dksX3_pair_4 13 rfl rfl)
theorem dX3_pair_107 : decode cX3_pair 107 = .ok (.bipush 20, 2) := dk_16 20 (dk_at dksX3_pair_4 14 rfl rfl)
theorem dX3_pair_109 : decode cX3_pair 109 = .ok (.invokevirtual 147, 3) := dk_182 0 147 (dk_at dksX3_pair_4 16 rfl rfl)
theorem dX3_pair_112 : decode cX3_pair 112 = .ok (.putfield 201, 3) := dk_181 0 201 (dk_at dksX3_pair_4 19 rfl rfl)
theorem dX3_pair_115 : decode cX3_pair 115 = .ok (.aload_n 0, 1) := dk_42 (dk_at dksX3_pair_4 22 rfl rfl)
theorem dX3_pair_116 : decode cX3_pair 116 = .ok (.invokevirtual 36, 3) := dk_182 0 36 (dk_at dksX3_pair_5 0 rfl rfl)
theorem dX3_pair_119 : decode cX3_pair 119 = .ok (.ifCond .ne 15, 3) := dk_154 0 15 (dk_at dksX3_pair_5 3 rfl rfl)
theorem dX3_pair_122 : decode cX3_pair 122 = .ok (.aload_n 0, 1) := dk_42 (dk_at dksX3_pair_5 6 rfl rfl)
theorem dX3_pair_123 : decode cX3_pair 123 = .ok (.getfield 12, 3) := dk_180 0 12 (dk_at dksX3_pair_5 7 rfl rfl)
theorem dX3_pair_126 : decode cX3_pair 126 = .ok (.getfield 102, 3) := dk_180 0 102 (dk_at dksX3_pair_5 10 rfl rfl)
theorem dX3_pair_129 : decode cX3_pair 129 = .ok (.aload_n 1, 1) := dk_43 (dk_at dksX3_pair_5 13 rfl rfl)
theorem dX3_pair_130 : decode cX3_pair 130 = .ok (.invokevirtual 203, 3) := dk_182 0 203 (dk_at dksX3_pair_5 14 rfl rfl)
theorem dX3_pair_133 : decode cX3_pair 133 = .ok (.pop, 1) := dk_87 (dk_at dksX3_pair_5 17 rfl rfl)
theorem dX3_pair_134 : decode cX3_pair 134 = .ok (.return_, 1) := dk_177 (dk_at dksX3_pair_5 18 rfl rfl)
abbrev cX3_begins : ByteArray := prog_10_method_14_code
def yX3_begins : MethodName := ⟨RX3, "begins", "(II)V"⟩
def dkwX3_begins_1 : List UInt8 := [182, 0, 56, 42, 182, 0, 49, 177]
abbrev dktX3_begins_1 : List UInt8 := dkwX3_begins_1 ++ []
def dkwX3_begins_0 : List UInt8 := [27, 28, 160, 0, 8, 42, 8, 182, 0, 56, 42, 180, 0, 12, 180, 0, 99, 2, 160, 0, 9, 42, 16, 6]
abbrev dktX3_begins_0 : List UInt8 := dkwX3_begins_0 ++ dktX3_begins_1
theorem dksX3_begins_0 : cX3_begins.data.toList.drop 0 = dktX3_begins_0 := by decide +kernel
theorem dksX3_begins_1 : cX3_begins.data.toList.drop 24 = dktX3_begins_1 := dk_seg dksX3_begins_0 24 rfl rfl
theorem dX3_begins_0 : decode cX3_begins 0 = .ok (.iload_n 1, 1) := dk_27 (dk_at dksX3_begins_0 0 rfl rfl)
theorem dX3_begins_1 : decode cX3_begins 1 = .ok (.iload_n 2, 1) := dk_28 (dk_at dksX3_begins_0 1 rfl rfl)
theorem dX3_begins_2 : decode cX3_begins 2 = .ok (.if_icmp .ne 8, 3) := dk_160 0 8 (dk_at dksX3_begins_0 2 rfl rfl)
theorem dX3_begins_5 : decode cX3_begins 5 = .ok (.aload_n 0, 1) := dk_42 (dk_at dksX3_begins_0 5 rfl rfl)
theorem dX3_begins_6 : decode cX3_begins 6 = .ok (.iconst 5, 1) := dk_8 (dk_at dksX3_begins_0 6 rfl rfl)
theorem dX3_begins_7 : decode cX3_begins 7 = .ok (.invokevirtual 56, 3) := dk_182 0 56 (dk_at dksX3_begins_0 7 rfl rfl)
theorem dX3_begins_10 : decode cX3_begins 10 = .ok (.aload_n 0, 1) := dk_42 (dk_at dksX3_begins_0 10 rfl rfl)
theorem dX3_begins_11 : decode cX3_begins 11 = .ok (.getfield 12, 3) := dk_180 0 12 (dk_at dksX3_begins_0 11 rfl rfl)
theorem dX3_begins_14 : decode cX3_begins 14 = .ok (.getfield 99, 3) := dk_180 0 99 (dk_at dksX3_begins_0 14 rfl rfl)
theorem dX3_begins_17 : decode cX3_begins 17 = .ok (.iconst (-1), 1) := dk_2 (dk_at dksX3_begins_0 17 rfl rfl)
theorem dX3_begins_18 : decode cX3_begins 18 = .ok (.if_icmp .ne 9, 3) := dk_160 0 9 (dk_at dksX3_begins_0 18 rfl rfl)
theorem dX3_begins_21 : decode cX3_begins 21 = .ok (.aload_n 0, 1) := dk_42 (dk_at dksX3_begins_0 21 rfl rfl)
theorem dX3_begins_22 : decode cX3_begins 22 = .ok (.bipush 6, 2) := dk_16 6 (dk_at dksX3_begins_0 22 rfl rfl)
theorem dX3_begins_24 : decode cX3_begins 24 = .ok (.invokevirtual 56, 3) := dk_182 0 56 (dk_at dksX3_begins_1 0 rfl rfl)
theorem dX3_begins_27 : decode cX3_begins 27 = .ok (.aload_n 0, 1) := dk_42 (dk_at dksX3_begins_1 3 rfl rfl)
theorem dX3_begins_28 : decode cX3_begins 28 = .ok (.invokevirtual 49, 3) := dk_182 0 49 (dk_at dksX3_begins_1 4 rfl rfl)
theorem dX3_begins_31 : decode cX3_begins 31 = .ok (.return_, 1) := dk_177 (dk_at dksX3_begins_1 7 rfl rfl)
abbrev cX3_law : ByteArray := prog_10_method_16_code
def yX3_law : MethodName := ⟨RX3, "law", "()LFigureKnee$Law;"⟩
def dkwX3_law_8 : List UInt8 := [176, 187, 0, 173, 89, 183, 0, 175, 176, 42, 4, 182, 0, 56, 1, 176]
abbrev dktX3_law_8 : List UInt8 := dkwX3_law_8 ++ []
def dkwX3_law_7 : List UInt8 := [187, 0, 163, 89, 3, 183, 0, 165, 176, 187, 0, 167, 89, 183, 0, 169, 176, 187, 0, 170, 89, 183, 0, 172]
abbrev dktX3_law_7 : List UInt8 := dkwX3_law_7 ++ dktX3_law_8
def dkwX3_law_6 : List UInt8 := [170, 0, 0, 0, 0, 63, 0, 0, 0, 0, 0, 0, 0, 3, 0, 0, 0, 30, 0, 0, 0, 39, 0, 0, 0, 47, 0, 0, 0, 55]
abbrev dktX3_law_6 : List UInt8 := dkwX3_law_6 ++ dktX3_law_7
def dkwX3_law_5 : List UInt8 := [153, 0, 5, 6, 61, 28]
abbrev dktX3_law_5 : List UInt8 := dkwX3_law_5 ++ dktX3_law_6
def dkwX3_law_4 : List UInt8 := [61, 167, 0, 28, 43, 18, 159, 182, 0, 119, 153, 0, 19, 5, 61, 167, 0, 14, 43, 18, 161, 182, 0, 119]
abbrev dktX3_law_4 : List UInt8 := dkwX3_law_4 ++ dktX3_law_5
def dkwX3_law_3 : List UInt8 := [43, 18, 155, 182, 0, 119, 153, 0, 47, 3, 61, 167, 0, 42, 43, 18, 157, 182, 0, 119, 153, 0, 33, 4]
abbrev dktX3_law_3 : List UInt8 := dkwX3_law_3 ++ dktX3_law_4
def dkwX3_law_2 : List UInt8 := [171, 0, 0, 0, 0, 95, 0, 0, 0, 4, 179, 148, 68, 57, 0, 0, 0, 70, 250, 152, 16, 36, 0, 0, 0, 84, 3, 5, 223, 122, 0, 0, 0, 56, 108, 183, 251, 65, 0, 0, 0, 42]
abbrev dktX3_law_2 : List UInt8 := dkwX3_law_2 ++ dktX3_law_3
def dkwX3_law_1 : List UInt8 := [2, 61, 43, 182, 0, 113]
abbrev dktX3_law_1 : List UInt8 := dkwX3_law_1 ++ dktX3_law_2
def dkwX3_law_0 : List UInt8 := [42, 180, 0, 28, 180, 0, 46, 5, 160, 0, 13, 42, 180, 0, 28, 180, 0, 81, 167, 0, 5, 18, 111, 76]
abbrev dktX3_law_0 : List UInt8 := dkwX3_law_0 ++ dktX3_law_1
theorem dksX3_law_0 : cX3_law.data.toList.drop 0 = dktX3_law_0 := by decide +kernel
theorem dksX3_law_1 : cX3_law.data.toList.drop 24 = dktX3_law_1 := dk_seg dksX3_law_0 24 rfl rfl
theorem dksX3_law_2 : cX3_law.data.toList.drop 30 = dktX3_law_2 := dk_seg dksX3_law_1 6 rfl rfl
theorem dksX3_law_3 : cX3_law.data.toList.drop 72 = dktX3_law_3 := dk_seg dksX3_law_2 42 rfl rfl
theorem dksX3_law_4 : cX3_law.data.toList.drop 96 = dktX3_law_4 := dk_seg dksX3_law_3 24 rfl rfl
theorem dksX3_law_5 : cX3_law.data.toList.drop 120 = dktX3_law_5 := dk_seg dksX3_law_4 24 rfl rfl
theorem dksX3_law_6 : cX3_law.data.toList.drop 126 = dktX3_law_6 := dk_seg dksX3_law_5 6 rfl rfl
theorem dksX3_law_7 : cX3_law.data.toList.drop 156 = dktX3_law_7 := dk_seg dksX3_law_6 30 rfl rfl
theorem dksX3_law_8 : cX3_law.data.toList.drop 180 = dktX3_law_8 := dk_seg dksX3_law_7 24 rfl rfl
theorem dX3_law_0 : decode cX3_law 0 = .ok (.aload_n 0, 1) := dk_42 (dk_at dksX3_law_0 0 rfl rfl)
theorem dX3_law_1 : decode cX3_law 1 = .ok (.getfield 28, 3) := dk_180 0 28 (dk_at dksX3_law_0 1 rfl rfl)
theorem dX3_law_4 : decode cX3_law 4 = .ok (.getfield 46, 3) := dk_180 0 46 (dk_at dksX3_law_0 4 rfl rfl)
theorem dX3_law_7 : decode cX3_law 7 = .ok (.iconst 2, 1) := dk_5 (dk_at dksX3_law_0 7 rfl rfl)
theorem dX3_law_8 : decode cX3_law 8 = .ok (.if_icmp .ne 13, 3) := dk_160 0 13 (dk_at dksX3_law_0 8 rfl rfl)
theorem dX3_law_11 : decode cX3_law 11 = .ok (.aload_n 0, 1) := dk_42 (dk_at dksX3_law_0 11 rfl rfl)
theorem dX3_law_12 : decode cX3_law 12 = .ok (.getfield 28, 3) := dk_180 0 28 (dk_at dksX3_law_0 12 rfl rfl)
theorem dX3_law_15 : decode cX3_law 15 = .ok (.getfield 81, 3) := dk_180 0 81 (dk_at dksX3_law_0 15 rfl rfl)
theorem dX3_law_18 : decode cX3_law 18 = .ok (.goto 5, 3) := dk_167 0 5 (dk_at dksX3_law_0 18 rfl rfl)
theorem dX3_law_21 : decode cX3_law 21 = .ok (.ldc 111, 2) := dk_18 111 (dk_at dksX3_law_0 21 rfl rfl)
theorem dX3_law_23 : decode cX3_law 23 = .ok (.astore_n 1, 1) := dk_76 (dk_at dksX3_law_0 23 rfl rfl)
theorem dX3_law_24 : decode cX3_law 24 = .ok (.iconst (-1), 1) := dk_2 (dk_at dksX3_law_1 0 rfl rfl)
theorem dX3_law_25 : decode cX3_law 25 = .ok (.istore_n 2, 1) := dk_61 (dk_at dksX3_law_1 1 rfl rfl)
theorem dX3_law_26 : decode cX3_law 26 = .ok (.aload_n 1, 1) := dk_43 (dk_at dksX3_law_1 2 rfl rfl)
theorem dX3_law_27 : decode cX3_law 27 = .ok (.invokevirtual 113, 3) := dk_182 0 113 (dk_at dksX3_law_1 3 rfl rfl)
theorem dX3_law_30 : decode cX3_law 30 = .ok (.lookupswitch 95 #[(-1282128839, 70), (-90697692, 84), (50716538, 56), (1823996737, 42)], 42) := by decide +kernel
theorem dX3_law_72 : decode cX3_law 72 = .ok (.aload_n 1, 1) := dk_43 (dk_at dksX3_law_3 0 rfl rfl)
theorem dX3_law_73 : decode cX3_law 73 = .ok (.ldc 155, 2) := dk_18 155 (dk_at dksX3_law_3 1 rfl rfl)
theorem dX3_law_75 : decode cX3_law 75 = .ok (.invokevirtual 119, 3) := dk_182 0 119 (dk_at dksX3_law_3 3 rfl rfl)
theorem dX3_law_78 : decode cX3_law 78 = .ok (.ifCond .eq 47, 3) := dk_153 0 47 (dk_at dksX3_law_3 6 rfl rfl)
theorem dX3_law_81 : decode cX3_law 81 = .ok (.iconst 0, 1) := dk_3 (dk_at dksX3_law_3 9 rfl rfl)
theorem dX3_law_82 : decode cX3_law 82 = .ok (.istore_n 2, 1) := dk_61 (dk_at dksX3_law_3 10 rfl rfl)
theorem dX3_law_83 : decode cX3_law 83 = .ok (.goto 42, 3) := dk_167 0 42 (dk_at dksX3_law_3 11 rfl rfl)
theorem dX3_law_86 : decode cX3_law 86 = .ok (.aload_n 1, 1) := dk_43 (dk_at dksX3_law_3 14 rfl rfl)
theorem dX3_law_87 : decode cX3_law 87 = .ok (.ldc 157, 2) := dk_18 157 (dk_at dksX3_law_3 15 rfl rfl)
theorem dX3_law_89 : decode cX3_law 89 = .ok (.invokevirtual 119, 3) := dk_182 0 119 (dk_at dksX3_law_3 17 rfl rfl)
theorem dX3_law_92 : decode cX3_law 92 = .ok (.ifCond .eq 33, 3) := dk_153 0 33 (dk_at dksX3_law_3 20 rfl rfl)
theorem dX3_law_95 : decode cX3_law 95 = .ok (.iconst 1, 1) := dk_4 (dk_at dksX3_law_3 23 rfl rfl)
theorem dX3_law_96 : decode cX3_law 96 = .ok (.istore_n 2, 1) := dk_61 (dk_at dksX3_law_4 0 rfl rfl)
theorem dX3_law_97 : decode cX3_law 97 = .ok (.goto 28, 3) := dk_167 0 28 (dk_at dksX3_law_4 1 rfl rfl)
theorem dX3_law_100 : decode cX3_law 100 = .ok (.aload_n 1, 1) := dk_43 (dk_at dksX3_law_4 4 rfl rfl)
theorem dX3_law_101 : decode cX3_law 101 = .ok (.ldc 159, 2) := dk_18 159 (dk_at dksX3_law_4 5 rfl rfl)
theorem dX3_law_103 : decode cX3_law 103 = .ok (.invokevirtual 119, 3) := dk_182 0 119 (dk_at dksX3_law_4 7 rfl rfl)
theorem dX3_law_106 : decode cX3_law 106 = .ok (.ifCond .eq 19, 3) := dk_153 0 19 (dk_at dksX3_law_4 10 rfl rfl)
theorem dX3_law_109 : decode cX3_law 109 = .ok (.iconst 2, 1) := dk_5 (dk_at dksX3_law_4 13 rfl rfl)
theorem dX3_law_110 : decode cX3_law 110 = .ok (.istore_n 2, 1) := dk_61 (dk_at dksX3_law_4 14 rfl rfl)
theorem dX3_law_111 : decode cX3_law 111 = .ok (.goto 14, 3) := dk_167 0 14 (dk_at dksX3_law_4 15 rfl rfl)
theorem dX3_law_114 : decode cX3_law 114 = .ok (.aload_n 1, 1) := dk_43 (dk_at dksX3_law_4 18 rfl rfl)
theorem dX3_law_115 : decode cX3_law 115 = .ok (.ldc 161, 2) := dk_18 161 (dk_at dksX3_law_4 19 rfl rfl)
theorem dX3_law_117 : decode cX3_law 117 = .ok (.invokevirtual 119, 3) := dk_182 0 119 (dk_at dksX3_law_4 21 rfl rfl)
theorem dX3_law_120 : decode cX3_law 120 = .ok (.ifCond .eq 5, 3) := dk_153 0 5 (dk_at dksX3_law_5 0 rfl rfl)
theorem dX3_law_123 : decode cX3_law 123 = .ok (.iconst 3, 1) := dk_6 (dk_at dksX3_law_5 3 rfl rfl)
theorem dX3_law_124 : decode cX3_law 124 = .ok (.istore_n 2, 1) := dk_61 (dk_at dksX3_law_5 4 rfl rfl)
theorem dX3_law_125 : decode cX3_law 125 = .ok (.iload_n 2, 1) := dk_28 (dk_at dksX3_law_5 5 rfl rfl)
theorem dX3_law_126 : decode cX3_law 126 = .ok (.tableswitch 63 0 3 #[30, 39, 47, 55], 30) := by decide +kernel
theorem dX3_law_156 : decode cX3_law 156 = .ok (.new 163, 3) := dk_187 0 163 (dk_at dksX3_law_7 0 rfl rfl)
theorem dX3_law_159 : decode cX3_law 159 = .ok (.dup, 1) := dk_89 (dk_at dksX3_law_7 3 rfl rfl)
theorem dX3_law_160 : decode cX3_law 160 = .ok (.iconst 0, 1) := dk_3 (dk_at dksX3_law_7 4 rfl rfl)
theorem dX3_law_161 : decode cX3_law 161 = .ok (.invokespecial 165, 3) := dk_183 0 165 (dk_at dksX3_law_7 5 rfl rfl)
theorem dX3_law_164 : decode cX3_law 164 = .ok (.areturn, 1) := dk_176 (dk_at dksX3_law_7 8 rfl rfl)
theorem dX3_law_165 : decode cX3_law 165 = .ok (.new 167, 3) := dk_187 0 167 (dk_at dksX3_law_7 9 rfl rfl)
theorem dX3_law_168 : decode cX3_law 168 = .ok (.dup, 1) := dk_89 (dk_at dksX3_law_7 12 rfl rfl)
theorem dX3_law_169 : decode cX3_law 169 = .ok (.invokespecial 169, 3) := dk_183 0 169 (dk_at dksX3_law_7 13 rfl rfl)
theorem dX3_law_172 : decode cX3_law 172 = .ok (.areturn, 1) := dk_176 (dk_at dksX3_law_7 16 rfl rfl)
theorem dX3_law_173 : decode cX3_law 173 = .ok (.new 170, 3) := dk_187 0 170 (dk_at dksX3_law_7 17 rfl rfl)
theorem dX3_law_176 : decode cX3_law 176 = .ok (.dup, 1) := dk_89 (dk_at dksX3_law_7 20 rfl rfl)
theorem dX3_law_177 : decode cX3_law 177 = .ok (.invokespecial 172, 3) := dk_183 0 172 (dk_at dksX3_law_7 21 rfl rfl)
theorem dX3_law_180 : decode cX3_law 180 = .ok (.areturn, 1) := dk_176 (dk_at dksX3_law_8 0 rfl rfl)
theorem dX3_law_181 : decode cX3_law 181 = .ok (.new 173, 3) := dk_187 0 173 (dk_at dksX3_law_8 1 rfl rfl)
theorem dX3_law_184 : decode cX3_law 184 = .ok (.dup, 1) := dk_89 (dk_at dksX3_law_8 4 rfl rfl)
theorem dX3_law_185 : decode cX3_law 185 = .ok (.invokespecial 175, 3) := dk_183 0 175 (dk_at dksX3_law_8 5 rfl rfl)
theorem dX3_law_188 : decode cX3_law 188 = .ok (.areturn, 1) := dk_176 (dk_at dksX3_law_8 8 rfl rfl)
theorem dX3_law_189 : decode cX3_law 189 = .ok (.aload_n 0, 1) := dk_42 (dk_at dksX3_law_8 9 rfl rfl)
theorem dX3_law_190 : decode cX3_law 190 = .ok (.iconst 1, 1) := dk_4 (dk_at dksX3_law_8 10 rfl rfl)
theorem dX3_law_191 : decode cX3_law 191 = .ok (.invokevirtual 56, 3) := dk_182 0 56 (dk_at dksX3_law_8 11 rfl rfl)
theorem dX3_law_194 : decode cX3_law 194 = .ok (.aconst_null, 1) := dk_1 (dk_at dksX3_law_8 14 rfl rfl)
theorem dX3_law_195 : decode cX3_law 195 = .ok (.areturn, 1) := dk_176 (dk_at dksX3_law_8 15 rfl rfl)
abbrev cX3_contract : ByteArray := prog_10_method_18_code
def yX3_contract : MethodName := ⟨RX3, "contract", "()V"⟩
def dkwX3_contract_4 : List UInt8 := [180, 0, 214, 4, 96, 181, 0, 214, 177]
abbrev dktX3_contract_4 : List UInt8 := dkwX3_contract_4 ++ []
def dkwX3_contract_3 : List UInt8 := [180, 0, 12, 180, 0, 102, 27, 182, 0, 206, 192, 0, 183, 28, 181, 0, 210, 42, 180, 0, 12, 89]
abbrev dktX3_contract_3 : List UInt8 := dkwX3_contract_3 ++ dktX3_contract_4
def dkwX3_contract_2 : List UInt8 := [182, 0, 49, 42, 18, 213, 4, 16, 9, 182, 0, 147, 61, 42, 182, 0, 36, 153, 0, 4, 177, 42]
abbrev dktX3_contract_2 : List UInt8 := dkwX3_contract_2 ++ dktX3_contract_3
def dkwX3_contract_1 : List UInt8 := [180, 0, 102, 27, 182, 0, 206, 192, 0, 183, 180, 0, 210, 158, 0, 8, 42, 6, 182, 0, 56, 42]
abbrev dktX3_contract_1 : List UInt8 := dkwX3_contract_1 ++ dktX3_contract_2
def dkwX3_contract_0 : List UInt8 := [42, 2, 3, 182, 0, 179, 42, 182, 0, 89, 60, 42, 182, 0, 36, 154, 0, 28, 42, 180, 0, 12]
abbrev dktX3_contract_0 : List UInt8 := dkwX3_contract_0 ++ dktX3_contract_1
theorem dksX3_contract_0 : cX3_contract.data.toList.drop 0 = dktX3_contract_0 := by decide +kernel
theorem dksX3_contract_1 : cX3_contract.data.toList.drop 22 = dktX3_contract_1 := dk_seg dksX3_contract_0 22 rfl rfl
theorem dksX3_contract_2 : cX3_contract.data.toList.drop 44 = dktX3_contract_2 := dk_seg dksX3_contract_1 22 rfl rfl
theorem dksX3_contract_3 : cX3_contract.data.toList.drop 66 = dktX3_contract_3 := dk_seg dksX3_contract_2 22 rfl rfl
theorem dksX3_contract_4 : cX3_contract.data.toList.drop 88 = dktX3_contract_4 := dk_seg dksX3_contract_3 22 rfl rfl
theorem dX3_contract_0 : decode cX3_contract 0 = .ok (.aload_n 0, 1) := dk_42 (dk_at dksX3_contract_0 0 rfl rfl)
theorem dX3_contract_1 : decode cX3_contract 1 = .ok (.iconst (-1), 1) := dk_2 (dk_at dksX3_contract_0 1 rfl rfl)
theorem dX3_contract_2 : decode cX3_contract 2 = .ok (.iconst 0, 1) := dk_3 (dk_at dksX3_contract_0 2 rfl rfl)
theorem dX3_contract_3 : decode cX3_contract 3 = .ok (.invokevirtual 179, 3) := dk_182 0 179 (dk_at dksX3_contract_0 3 rfl rfl)
theorem dX3_contract_6 : decode cX3_contract 6 = .ok (.aload_n 0, 1) := dk_42 (dk_at dksX3_contract_0 6 rfl rfl)
theorem dX3_contract_7 : decode cX3_contract 7 = .ok (.invokevirtual 89, 3) := dk_182 0 89 (dk_at dksX3_contract_0 7 rfl rfl)
theorem dX3_contract_10 : decode cX3_contract 10 = .ok (.istore_n 1, 1) := dk_60 (dk_at dksX3_contract_0 10 rfl rfl)
theorem dX3_contract_11 : decode cX3_contract 11 = .ok (.aload_n 0, 1) := dk_42 (dk_at dksX3_contract_0 11 rfl rfl)
theorem dX3_contract_12 : decode cX3_contract 12 = .ok (.invokevirtual 36, 3) := dk_182 0 36 (dk_at dksX3_contract_0 12 rfl rfl)
theorem dX3_contract_15 : decode cX3_contract 15 = .ok (.ifCond .ne 28, 3) := dk_154 0 28 (dk_at dksX3_contract_0 15 rfl rfl)
theorem dX3_contract_18 : decode cX3_contract 18 = .ok (.aload_n 0, 1) := dk_42 (dk_at dksX3_contract_0 18 rfl rfl)
theorem dX3_contract_19 : decode cX3_contract 19 = .ok (.getfield 12, 3) := dk_180 0 12 (dk_at dksX3_contract_0 19 rfl rfl)
theorem dX3_contract_22 : decode cX3_contract 22 = .ok (.getfield 102, 3) := dk_180 0 102 (dk_at dksX3_contract_1 0 rfl rfl)
theorem dX3_contract_25 : decode cX3_contract 25 = .ok (.iload_n 1, 1) := dk_27 (dk_at dksX3_contract_1 3 rfl rfl)
theorem dX3_contract_26 : decode cX3_contract 26 = .ok (.invokevirtual 206, 3) := dk_182 0 206 (dk_at dksX3_contract_1 4 rfl rfl)
theorem dX3_contract_29 : decode cX3_contract 29 = .ok (.checkcast 183, 3) := dk_192 0 183 (dk_at dksX3_contract_1 7 rfl rfl)
theorem dX3_contract_32 : decode cX3_contract 32 = .ok (.getfield 210, 3) := dk_180 0 210 (dk_at dksX3_contract_1 10 rfl rfl)
theorem dX3_contract_35 : decode cX3_contract 35 = .ok (.ifCond .le 8, 3) := dk_158 0 8 (dk_at dksX3_contract_1 13 rfl rfl)
theorem dX3_contract_38 : decode cX3_contract 38 = .ok (.aload_n 0, 1) := dk_42 (dk_at dksX3_contract_1 16 rfl rfl)
theorem dX3_contract_39 : decode cX3_contract 39 = .ok (.iconst 3, 1) := dk_6 (dk_at dksX3_contract_1 17 rfl rfl)
theorem dX3_contract_40 : decode cX3_contract 40 = .ok (.invokevirtual 56, 3) := dk_182 0 56 (dk_at dksX3_contract_1 18 rfl rfl)
theorem dX3_contract_43 : decode cX3_contract 43 = .ok (.aload_n 0, 1) := dk_42 (dk_at dksX3_contract_1 21 rfl rfl)
theorem dX3_contract_44 : decode cX3_contract 44 = .ok (.invokevirtual 49, 3) := dk_182 0 49 (dk_at dksX3_contract_2 0 rfl rfl)
theorem dX3_contract_47 : decode cX3_contract 47 = .ok (.aload_n 0, 1) := dk_42 (dk_at dksX3_contract_2 3 rfl rfl)
theorem dX3_contract_48 : decode cX3_contract 48 = .ok (.ldc 213, 2) := dk_18 213 (dk_at dksX3_contract_2 4 rfl rfl)
theorem dX3_contract_50 : decode cX3_contract 50 = .ok (.iconst 1, 1) := dk_4 (dk_at dksX3_contract_2 6 rfl rfl)
theorem dX3_contract_51 : decode cX3_contract 51 = .ok (.bipush 9, 2) := dk_16 9 (dk_at dksX3_contract_2 7 rfl rfl)
theorem dX3_contract_53 : decode cX3_contract 53 = .ok (.invokevirtual 147, 3) := dk_182 0 147 (dk_at dksX3_contract_2 9 rfl rfl)
theorem dX3_contract_56 : decode cX3_contract 56 = .ok (.istore_n 2, 1) := dk_61 (dk_at dksX3_contract_2 12 rfl rfl)
theorem dX3_contract_57 : decode cX3_contract 57 = .ok (.aload_n 0, 1) := dk_42 (dk_at dksX3_contract_2 13 rfl rfl)
theorem dX3_contract_58 : decode cX3_contract 58 = .ok (.invokevirtual 36, 3) := dk_182 0 36 (dk_at dksX3_contract_2 14 rfl rfl)
theorem dX3_contract_61 : decode cX3_contract 61 = .ok (.ifCond .eq 4, 3) := dk_153 0 4 (dk_at dksX3_contract_2 17 rfl rfl)
theorem dX3_contract_64 : decode cX3_contract 64 = .ok (.return_, 1) := dk_177 (dk_at dksX3_contract_2 20 rfl rfl)
theorem dX3_contract_65 : decode cX3_contract 65 = .ok (.aload_n 0, 1) := dk_42 (dk_at dksX3_contract_2 21 rfl rfl)
theorem dX3_contract_66 : decode cX3_contract 66 = .ok (.getfield 12, 3) := dk_180 0 12 (dk_at dksX3_contract_3 0 rfl rfl)
theorem dX3_contract_69 : decode cX3_contract 69 = .ok (.getfield 102, 3) := dk_180 0 102 (dk_at dksX3_contract_3 3 rfl rfl)
theorem dX3_contract_72 : decode cX3_contract 72 = .ok (.iload_n 1, 1) := dk_27 (dk_at dksX3_contract_3 6 rfl rfl)
theorem dX3_contract_73 : decode cX3_contract 73 = .ok (.invokevirtual 206, 3) := dk_182 0 206 (dk_at dksX3_contract_3 7 rfl rfl)
theorem dX3_contract_76 : decode cX3_contract 76 = .ok (.checkcast 183, 3) := dk_192 0 183 (dk_at dksX3_contract_3 10 rfl rfl)
theorem dX3_contract_79 : decode cX3_contract 79 = .ok (.iload_n 2, 1) := dk_28 (dk_at dksX3_contract_3 13 rfl rfl)
theorem dX3_contract_80 : decode cX3_contract 80 = .ok (.putfield 210, 3) := dk_181 0 210 (dk_at dksX3_contract_3 14 rfl rfl)
theorem dX3_contract_83 : decode cX3_contract 83 = .ok (.aload_n 0, 1) := dk_42 (dk_at dksX3_contract_3 17 rfl rfl)
theorem dX3_contract_84 : decode cX3_contract 84 = .ok (.getfield 12, 3) := dk_180 0 12 (dk_at dksX3_contract_3 18 rfl rfl)
theorem dX3_contract_87 : decode cX3_contract 87 = .ok (.dup, 1) := dk_89 (dk_at dksX3_contract_3 21 rfl rfl)
theorem dX3_contract_88 : decode cX3_contract 88 = .ok (.getfield 214, 3) := dk_180 0 214 (dk_at dksX3_contract_4 0 rfl rfl)
theorem dX3_contract_91 : decode cX3_contract 91 = .ok (.iconst 1, 1) := dk_4 (dk_at dksX3_contract_4 3 rfl rfl)
theorem dX3_contract_92 : decode cX3_contract 92 = .ok (.iadd, 1) := dk_96 (dk_at dksX3_contract_4 4 rfl rfl)
theorem dX3_contract_93 : decode cX3_contract 93 = .ok (.putfield 214, 3) := dk_181 0 214 (dk_at dksX3_contract_4 5 rfl rfl)
theorem dX3_contract_96 : decode cX3_contract 96 = .ok (.return_, 1) := dk_177 (dk_at dksX3_contract_4 8 rfl rfl)
abbrev cX3_known : ByteArray := prog_10_method_10_code
def yX3_known : MethodName := ⟨RX3, "known", "()I"⟩
def dkwX3_known_2 : List UInt8 := [3, 167, 0, 4, 27, 172]
abbrev dktX3_known_2 : List UInt8 := dkwX3_known_2 ++ []
def dkwX3_known_1 : List UInt8 := [180, 0, 81, 182, 0, 85, 60, 27, 2, 160, 0, 8, 42, 5, 182, 0, 56, 42, 182, 0, 36, 153, 0, 7]
abbrev dktX3_known_1 : List UInt8 := dkwX3_known_1 ++ dktX3_known_2
def dkwX3_known_0 : List UInt8 := [42, 180, 0, 28, 182, 0, 78, 154, 0, 8, 42, 4, 182, 0, 56, 42, 180, 0, 12, 42, 180, 0, 28]
abbrev dktX3_known_0 : List UInt8 := dkwX3_known_0 ++ dktX3_known_1
theorem dksX3_known_0 : cX3_known.data.toList.drop 0 = dktX3_known_0 := by decide +kernel
theorem dksX3_known_1 : cX3_known.data.toList.drop 23 = dktX3_known_1 := dk_seg dksX3_known_0 23 rfl rfl
theorem dksX3_known_2 : cX3_known.data.toList.drop 47 = dktX3_known_2 := dk_seg dksX3_known_1 24 rfl rfl
theorem dX3_known_0 : decode cX3_known 0 = .ok (.aload_n 0, 1) := dk_42 (dk_at dksX3_known_0 0 rfl rfl)
theorem dX3_known_1 : decode cX3_known 1 = .ok (.getfield 28, 3) := dk_180 0 28 (dk_at dksX3_known_0 1 rfl rfl)
theorem dX3_known_4 : decode cX3_known 4 = .ok (.invokevirtual 78, 3) := dk_182 0 78 (dk_at dksX3_known_0 4 rfl rfl)
theorem dX3_known_7 : decode cX3_known 7 = .ok (.ifCond .ne 8, 3) := dk_154 0 8 (dk_at dksX3_known_0 7 rfl rfl)
theorem dX3_known_10 : decode cX3_known 10 = .ok (.aload_n 0, 1) := dk_42 (dk_at dksX3_known_0 10 rfl rfl)
theorem dX3_known_11 : decode cX3_known 11 = .ok (.iconst 1, 1) := dk_4 (dk_at dksX3_known_0 11 rfl rfl)
theorem dX3_known_12 : decode cX3_known 12 = .ok (.invokevirtual 56, 3) := dk_182 0 56 (dk_at dksX3_known_0 12 rfl rfl)
theorem dX3_known_15 : decode cX3_known 15 = .ok (.aload_n 0, 1) := dk_42 (dk_at dksX3_known_0 15 rfl rfl)
theorem dX3_known_16 : decode cX3_known 16 = .ok (.getfield 12, 3) := dk_180 0 12 (dk_at dksX3_known_0 16 rfl rfl)
theorem dX3_known_19 : decode cX3_known 19 = .ok (.aload_n 0, 1) := dk_42 (dk_at dksX3_known_0 19 rfl rfl)
theorem dX3_known_20 : decode cX3_known 20 = .ok (.getfield 28, 3) := dk_180 0 28 (dk_at dksX3_known_0 20 rfl rfl)
theorem dX3_known_23 : decode cX3_known 23 = .ok (.getfield 81, 3) := dk_180 0 81 (dk_at dksX3_known_1 0 rfl rfl)
theorem dX3_known_26 : decode cX3_known 26 = .ok (.invokevirtual 85, 3) := dk_182 0 85 (dk_at dksX3_known_1 3 rfl rfl)
theorem dX3_known_29 : decode cX3_known 29 = .ok (.istore_n 1, 1) := dk_60 (dk_at dksX3_known_1 6 rfl rfl)
theorem dX3_known_30 : decode cX3_known 30 = .ok (.iload_n 1, 1) := dk_27 (dk_at dksX3_known_1 7 rfl rfl)
theorem dX3_known_31 : decode cX3_known 31 = .ok (.iconst (-1), 1) := dk_2 (dk_at dksX3_known_1 8 rfl rfl)
theorem dX3_known_32 : decode cX3_known 32 = .ok (.if_icmp .ne 8, 3) := dk_160 0 8 (dk_at dksX3_known_1 9 rfl rfl)
theorem dX3_known_35 : decode cX3_known 35 = .ok (.aload_n 0, 1) := dk_42 (dk_at dksX3_known_1 12 rfl rfl)
theorem dX3_known_36 : decode cX3_known 36 = .ok (.iconst 2, 1) := dk_5 (dk_at dksX3_known_1 13 rfl rfl)
theorem dX3_known_37 : decode cX3_known 37 = .ok (.invokevirtual 56, 3) := dk_182 0 56 (dk_at dksX3_known_1 14 rfl rfl)
theorem dX3_known_40 : decode cX3_known 40 = .ok (.aload_n 0, 1) := dk_42 (dk_at dksX3_known_1 17 rfl rfl)
theorem dX3_known_41 : decode cX3_known 41 = .ok (.invokevirtual 36, 3) := dk_182 0 36 (dk_at dksX3_known_1 18 rfl rfl)
theorem dX3_known_44 : decode cX3_known 44 = .ok (.ifCond .eq 7, 3) := dk_153 0 7 (dk_at dksX3_known_1 21 rfl rfl)
theorem dX3_known_47 : decode cX3_known 47 = .ok (.iconst 0, 1) := dk_3 (dk_at dksX3_known_2 0 rfl rfl)
theorem dX3_known_48 : decode cX3_known 48 = .ok (.goto 4, 3) := dk_167 0 4 (dk_at dksX3_known_2 1 rfl rfl)
theorem dX3_known_51 : decode cX3_known 51 = .ok (.iload_n 1, 1) := dk_27 (dk_at dksX3_known_2 4 rfl rfl)
theorem dX3_known_52 : decode cX3_known 52 = .ok (.ireturn, 1) := dk_172 (dk_at dksX3_known_2 5 rfl rfl)
abbrev cX3_debt : ByteArray := prog_10_method_19_code
def yX3_debt : MethodName := ⟨RX3, "debt", "()V"⟩
def dkwX3_debt_4 : List UInt8 := [182, 0, 203, 87, 177]
abbrev dktX3_debt_4 : List UInt8 := dkwX3_debt_4 ++ []
def dkwX3_debt_3 : List UInt8 := [182, 0, 36, 154, 0, 24, 42, 180, 0, 12, 180, 0, 217, 187, 0, 227, 89, 27, 28, 29, 183, 0, 229]
abbrev dktX3_debt_3 : List UInt8 := dkwX3_debt_3 ++ dktX3_debt_4
def dkwX3_debt_2 : List UInt8 := [182, 0, 223, 153, 0, 8, 42, 6, 182, 0, 56, 42, 182, 0, 49, 42, 4, 16, 99, 182, 0, 75, 62, 42]
abbrev dktX3_debt_2 : List UInt8 := dkwX3_debt_2 ++ dktX3_debt_3
def dkwX3_debt_1 : List UInt8 := [182, 0, 89, 61, 42, 182, 0, 36, 154, 0, 25, 27, 28, 159, 0, 15, 42, 180, 0, 12, 27, 28]
abbrev dktX3_debt_1 : List UInt8 := dkwX3_debt_1 ++ dktX3_debt_2
def dkwX3_debt_0 : List UInt8 := [42, 42, 180, 0, 12, 180, 0, 217, 182, 0, 176, 16, 10, 182, 0, 179, 42, 182, 0, 220, 60, 42]
abbrev dktX3_debt_0 : List UInt8 := dkwX3_debt_0 ++ dktX3_debt_1
theorem dksX3_debt_0 : cX3_debt.data.toList.drop 0 = dktX3_debt_0 := by decide +kernel
theorem dksX3_debt_1 : cX3_debt.data.toList.drop 22 = dktX3_debt_1 := dk_seg dksX3_debt_0 22 rfl rfl
theorem dksX3_debt_2 : cX3_debt.data.toList.drop 44 = dktX3_debt_2 := dk_seg dksX3_debt_1 22 rfl rfl
theorem dksX3_debt_3 : cX3_debt.data.toList.drop 68 = dktX3_debt_3 := dk_seg dksX3_debt_2 24 rfl rfl
theorem dksX3_debt_4 : cX3_debt.data.toList.drop 91 = dktX3_debt_4 := dk_seg dksX3_debt_3 23 rfl rfl
theorem dX3_debt_0 : decode cX3_debt 0 = .ok (.aload_n 0, 1) := dk_42 (dk_at dksX3_debt_0 0 rfl rfl)
theorem dX3_debt_1 : decode cX3_debt 1 = .ok (.aload_n 0, 1) := dk_42 (dk_at dksX3_debt_0 1 rfl rfl)
theorem dX3_debt_2 : decode cX3_debt 2 = .ok (.getfield 12, 3) := dk_180 0 12 (dk_at dksX3_debt_0 2 rfl rfl)
theorem dX3_debt_5 : decode cX3_debt 5 = .ok (.getfield 217, 3) := dk_180 0 217 (dk_at dksX3_debt_0 5 rfl rfl)
theorem dX3_debt_8 : decode cX3_debt 8 = .ok (.invokevirtual 176, 3) := dk_182 0 176 (dk_at dksX3_debt_0 8 rfl rfl)
theorem dX3_debt_11 : decode cX3_debt 11 = .ok (.bipush 10, 2) := dk_16 10 (dk_at dksX3_debt_0 11 rfl rfl)
theorem dX3_debt_13 : decode cX3_debt 13 = .ok (.invokevirtual 179, 3) := dk_182 0 179 (dk_at dksX3_debt_0 13 rfl rfl)
theorem dX3_debt_16 : decode cX3_debt 16 = .ok (.aload_n 0, 1) := dk_42 (dk_at dksX3_debt_0 16 rfl rfl)
theorem dX3_debt_17 : decode cX3_debt 17 = .ok (.invokevirtual 220, 3) := dk_182 0 220 (dk_at dksX3_debt_0 17 rfl rfl)
theorem dX3_debt_20 : decode cX3_debt 20 = .ok (.istore_n 1, 1) := dk_60 (dk_at dksX3_debt_0 20 rfl rfl)
theorem dX3_debt_21 : decode cX3_debt 21 = .ok (.aload_n 0, 1) := dk_42 (dk_at dksX3_debt_0 21 rfl rfl)
theorem dX3_debt_22 : decode cX3_debt 22 = .ok (.invokevirtual 89, 3) := dk_182 0 89 (dk_at dksX3_debt_1 0 rfl rfl)
theorem dX3_debt_25 : decode cX3_debt 25 = .ok (.istore_n 2, 1) := dk_61 (dk_at dksX3_debt_1 3 rfl rfl)
theorem dX3_debt_26 : decode cX3_debt 26 = .ok (.aload_n 0, 1) := dk_42 (dk_at dksX3_debt_1 4 rfl rfl)
theorem dX3_debt_27 : decode cX3_debt 27 = .ok (.invokevirtual 36, 3) := dk_182 0 36 (dk_at dksX3_debt_1 5 rfl rfl)
theorem dX3_debt_30 : decode cX3_debt 30 = .ok (.ifCond .ne 25, 3) := dk_154 0 25 (dk_at dksX3_debt_1 8 rfl rfl)
theorem dX3_debt_33 : decode cX3_debt 33 = .ok (.iload_n 1, 1) := dk_27 (dk_at dksX3_debt_1 11 rfl rfl)
theorem dX3_debt_34 : decode cX3_debt 34 = .ok (.iload_n 2, 1) := dk_28 (dk_at dksX3_debt_1 12 rfl rfl)
theorem dX3_debt_35 : decode cX3_debt 35 = .ok (.if_icmp .eq 15, 3) := dk_159 0 15 (dk_at dksX3_debt_1 13 rfl rfl)
theorem dX3_debt_38 : decode cX3_debt 38 = .ok (.aload_n 0, 1) := dk_42 (dk_at dksX3_debt_1 16 rfl rfl)
theorem dX3_debt_39 : decode cX3_debt 39 = .ok (.getfield 12, 3) := dk_180 0 12 (dk_at dksX3_debt_1 17 rfl rfl)
theorem dX3_debt_42 : decode cX3_debt 42 = .ok (.iload_n 1, 1) := dk_27 (dk_at dksX3_debt_1 20 rfl rfl)
theorem dX3_debt_43 : decode cX3_debt 43 = .ok (.iload_n 2, 1) := dk_28 (dk_at dksX3_debt_1 21 rfl rfl)
theorem dX3_debt_44 : decode cX3_debt 44 = .ok (.invokevirtual 223, 3) := dk_182 0 223 (dk_at dksX3_debt_2 0 rfl rfl)
theorem dX3_debt_47 : decode cX3_debt 47 = .ok (.ifCond .eq 8, 3) := dk_153 0 8 (dk_at dksX3_debt_2 3 rfl rfl)
theorem dX3_debt_50 : decode cX3_debt 50 = .ok (.aload_n 0, 1) := dk_42 (dk_at dksX3_debt_2 6 rfl rfl)
theorem dX3_debt_51 : decode cX3_debt 51 = .ok (.iconst 3, 1) := dk_6 (dk_at dksX3_debt_2 7 rfl rfl)
theorem dX3_debt_52 : decode cX3_debt 52 = .ok (.invokevirtual 56, 3) := dk_182 0 56 (dk_at dksX3_debt_2 8 rfl rfl)
theorem dX3_debt_55 : decode cX3_debt 55 = .ok (.aload_n 0, 1) := dk_42 (dk_at dksX3_debt_2 11 rfl rfl)
theorem dX3_debt_56 : decode cX3_debt 56 = .ok (.invokevirtual 49, 3) := dk_182 0 49 (dk_at dksX3_debt_2 12 rfl rfl)
theorem dX3_debt_59 : decode cX3_debt 59 = .ok (.aload_n 0, 1) := dk_42 (dk_at dksX3_debt_2 15 rfl rfl)
theorem dX3_debt_60 : decode cX3_debt 60 = .ok (.iconst 1, 1) := dk_4 (dk_at dksX3_debt_2 16 rfl rfl)
theorem dX3_debt_61 : decode cX3_debt 61 = .ok (.bipush 99, 2) := dk_16 99 (dk_at dksX3_debt_2 17 rfl rfl)
theorem dX3_debt_63 : decode cX3_debt 63 = .ok (.invokevirtual 75, 3) := dk_182 0 75 (dk_at dksX3_debt_2 19 rfl rfl)
theorem dX3_debt_66 : decode cX3_debt 66 = .ok (.istore_n 3, 1) := dk_62 (dk_at dksX3_debt_2 22 rfl rfl)
theorem dX3_debt_67 : decode cX3_debt 67 = .ok (.aload_n 0, 1) := dk_42 (dk_at dksX3_debt_2 23 rfl rfl)
theorem dX3_debt_68 : decode cX3_debt 68 = .ok (.invokevirtual 36, 3) := dk_182 0 36 (dk_at dksX3_debt_3 0 rfl rfl)
theorem dX3_debt_71 : decode cX3_debt 71 = .ok (.ifCond .ne 24, 3) := dk_154 0 24 (dk_at dksX3_debt_3 3 rfl rfl)
theorem dX3_debt_74 : decode cX3_debt 74 = .ok (.aload_n 0, 1) := dk_42 (dk_at dksX3_debt_3 6 rfl rfl)
theorem dX3_debt_75 : decode cX3_debt 75 = .ok (.getfield 12, 3) := dk_180 0 12 (dk_at dksX3_debt_3 7 rfl rfl)
theorem dX3_debt_78 : decode cX3_debt 78 = .ok (.getfield 217, 3) := dk_180 0 217 (dk_at dksX3_debt_3 10 rfl rfl)
theorem dX3_debt_81 : decode cX3_debt 81 = .ok (.new 227, 3) := dk_187 0 227 (dk_at dksX3_debt_3 13 rfl rfl)
theorem dX3_debt_84 : decode cX3_debt 84 = .ok (.dup, 1) := dk_89 (dk_at dksX3_debt_3 16 rfl rfl)
theorem dX3_debt_85 : decode cX3_debt 85 = .ok (.iload_n 1, 1) := dk_27 (dk_at dksX3_debt_3 17 rfl rfl)
theorem dX3_debt_86 : decode cX3_debt 86 = .ok (.iload_n 2, 1) := dk_28 (dk_at dksX3_debt_3 18 rfl rfl)
theorem dX3_debt_87 : decode cX3_debt 87 = .ok (.iload_n 3, 1) := dk_29 (dk_at dksX3_debt_3 19 rfl rfl)
theorem dX3_debt_88 : decode cX3_debt 88 = .ok (.invokespecial 229, 3) := dk_183 0 229 (dk_at dksX3_debt_3 20 rfl rfl)
theorem dX3_debt_91 : decode cX3_debt 91 = .ok (.invokevirtual 203, 3) := dk_182 0 203 (dk_at dksX3_debt_4 0 rfl rfl)
theorem dX3_debt_94 : decode cX3_debt 94 = .ok (.pop, 1) := dk_87 (dk_at dksX3_debt_4 3 rfl rfl)
theorem dX3_debt_95 : decode cX3_debt 95 = .ok (.return_, 1) := dk_177 (dk_at dksX3_debt_4 4 rfl rfl)
abbrev cX3_told : ByteArray := prog_10_method_11_code
def yX3_told : MethodName := ⟨RX3, "told", "()I"⟩
def dkwX3_told_0 : List UInt8 := [42, 182, 0, 89, 60, 42, 182, 0, 49, 27, 172]
abbrev dktX3_told_0 : List UInt8 := dkwX3_told_0 ++ []
theorem dksX3_told_0 : cX3_told.data.toList.drop 0 = dktX3_told_0 := by decide +kernel
theorem dX3_told_0 : decode cX3_told 0 = .ok (.aload_n 0, 1) := dk_42 (dk_at dksX3_told_0 0 rfl rfl)
theorem dX3_told_1 : decode cX3_told 1 = .ok (.invokevirtual 89, 3) := dk_182 0 89 (dk_at dksX3_told_0 1 rfl rfl)
theorem dX3_told_4 : decode cX3_told 4 = .ok (.istore_n 1, 1) := dk_60 (dk_at dksX3_told_0 4 rfl rfl)
theorem dX3_told_5 : decode cX3_told 5 = .ok (.aload_n 0, 1) := dk_42 (dk_at dksX3_told_0 5 rfl rfl)
theorem dX3_told_6 : decode cX3_told 6 = .ok (.invokevirtual 49, 3) := dk_182 0 49 (dk_at dksX3_told_0 6 rfl rfl)
theorem dX3_told_9 : decode cX3_told 9 = .ok (.iload_n 1, 1) := dk_27 (dk_at dksX3_told_0 9 rfl rfl)
theorem dX3_told_10 : decode cX3_told 10 = .ok (.ireturn, 1) := dk_172 (dk_at dksX3_told_0 10 rfl rfl)
abbrev cX3_unsure : ByteArray := prog_10_method_20_code
def yX3_unsure : MethodName := ⟨RX3, "unsure", "()V"⟩
def dkwX3_unsure_5 : List UInt8 := [180, 0, 232, 27, 79, 42, 180, 0, 12, 89, 180, 0, 232, 4, 96, 181, 0, 232, 177]
abbrev dktX3_unsure_5 : List UInt8 := dkwX3_unsure_5 ++ []
def dkwX3_unsure_4 : List UInt8 := [27, 182, 0, 206, 192, 0, 183, 28, 181, 0, 238, 42, 180, 0, 12, 180, 0, 241, 42, 180, 0, 12]
abbrev dktX3_unsure_4 : List UInt8 := dkwX3_unsure_4 ++ dktX3_unsure_5
def dkwX3_unsure_3 : List UInt8 := [180, 0, 12, 180, 0, 102, 27, 182, 0, 206, 192, 0, 183, 4, 181, 0, 235, 42, 180, 0, 12, 180, 0, 102]
abbrev dktX3_unsure_3 : List UInt8 := dkwX3_unsure_3 ++ dktX3_unsure_4
def dkwX3_unsure_2 : List UInt8 := [182, 0, 56, 42, 182, 0, 49, 42, 3, 16, 20, 182, 0, 75, 61, 42, 182, 0, 36, 153, 0, 4, 177, 42]
abbrev dktX3_unsure_2 : List UInt8 := dkwX3_unsure_2 ++ dktX3_unsure_3
def dkwX3_unsure_1 : List UInt8 := [42, 180, 0, 12, 180, 0, 102, 27, 182, 0, 206, 192, 0, 183, 180, 0, 235, 153, 0, 8, 42, 6]
abbrev dktX3_unsure_1 : List UInt8 := dkwX3_unsure_1 ++ dktX3_unsure_2
def dkwX3_unsure_0 : List UInt8 := [42, 42, 180, 0, 12, 180, 0, 232, 7, 182, 0, 179, 42, 182, 0, 89, 60, 42, 182, 0, 36, 154, 0, 28]
abbrev dktX3_unsure_0 : List UInt8 := dkwX3_unsure_0 ++ dktX3_unsure_1
theorem dksX3_unsure_0 : cX3_unsure.data.toList.drop 0 = dktX3_unsure_0 := by decide +kernel
theorem dksX3_unsure_1 : cX3_unsure.data.toList.drop 24 = dktX3_unsure_1 := dk_seg dksX3_unsure_0 24 rfl rfl
theorem dksX3_unsure_2 : cX3_unsure.data.toList.drop 46 = dktX3_unsure_2 := dk_seg dksX3_unsure_1 22 rfl rfl
theorem dksX3_unsure_3 : cX3_unsure.data.toList.drop 70 = dktX3_unsure_3 := dk_seg dksX3_unsure_2 24 rfl rfl
theorem dksX3_unsure_4 : cX3_unsure.data.toList.drop 94 = dktX3_unsure_4 := dk_seg dksX3_unsure_3 24 rfl rfl
theorem dksX3_unsure_5 : cX3_unsure.data.toList.drop 116 = dktX3_unsure_5 := dk_seg dksX3_unsure_4 22 rfl rfl
theorem dX3_unsure_0 : decode cX3_unsure 0 = .ok (.aload_n 0, 1) := dk_42 (dk_at dksX3_unsure_0 0 rfl rfl)
theorem dX3_unsure_1 : decode cX3_unsure 1 = .ok (.aload_n 0, 1) := dk_42 (dk_at dksX3_unsure_0 1 rfl rfl)
theorem dX3_unsure_2 : decode cX3_unsure 2 = .ok (.getfield 12, 3) := dk_180 0 12 (dk_at dksX3_unsure_0 2 rfl rfl)
theorem dX3_unsure_5 : decode cX3_unsure 5 = .ok (.getfield 232, 3) := dk_180 0 232 (dk_at dksX3_unsure_0 5 rfl rfl)
theorem dX3_unsure_8 : decode cX3_unsure 8 = .ok (.iconst 4, 1) := dk_7 (dk_at dksX3_unsure_0 8 rfl rfl)
theorem dX3_unsure_9 : decode cX3_unsure 9 = .ok (.invokevirtual 179, 3) := dk_182 0 179 (dk_at dksX3_unsure_0 9 rfl rfl)
theorem dX3_unsure_12 : decode cX3_unsure 12 = .ok (.aload_n 0, 1) := dk_42 (dk_at dksX3_unsure_0 12 rfl rfl)
theorem dX3_unsure_13 : decode cX3_unsure 13 = .ok (.invokevirtual 89, 3) := dk_182 0 89 (dk_at dksX3_unsure_0 13 rfl rfl)
theorem dX3_unsure_16 : decode cX3_unsure 16 = .ok (.istore_n 1, 1) := dk_60 (dk_at dksX3_unsure_0 16 rfl rfl)
theorem dX3_unsure_17 : decode cX3_unsure 17 = .ok (.aload_n 0, 1) := dk_42 (dk_at dksX3_unsure_0 17 rfl rfl)
theorem dX3_unsure_18 : decode cX3_unsure 18 = .ok (.invokevirtual 36, 3) := dk_182 0 36 (dk_at dksX3_unsure_0 18 rfl rfl)
theorem dX3_unsure_21 : decode cX3_unsure 21 = .ok (.ifCond .ne 28, 3) := dk_154 0 28 (dk_at dksX3_unsure_0 21 rfl rfl)
theorem dX3_unsure_24 : decode cX3_unsure 24 = .ok (.aload_n 0, 1) := dk_42 (dk_at dksX3_unsure_1 0 rfl rfl)
theorem dX3_unsure_25 : decode cX3_unsure 25 = .ok (.getfield 12, 3) := dk_180 0 12 (dk_at dksX3_unsure_1 1 rfl rfl)
theorem dX3_unsure_28 : decode cX3_unsure 28 = .ok (.getfield 102, 3) := dk_180 0 102 (dk_at dksX3_unsure_1 4 rfl rfl)
theorem dX3_unsure_31 : decode cX3_unsure 31 = .ok (.iload_n 1, 1) := dk_27 (dk_at dksX3_unsure_1 7 rfl rfl)
theorem dX3_unsure_32 : decode cX3_unsure 32 = .ok (.invokevirtual 206, 3) := dk_182 0 206 (dk_at dksX3_unsure_1 8 rfl rfl)
theorem dX3_unsure_35 : decode cX3_unsure 35 = .ok (.checkcast 183, 3) := dk_192 0 183 (dk_at dksX3_unsure_1 11 rfl rfl)
theorem dX3_unsure_38 : decode cX3_unsure 38 = .ok (.getfield 235, 3) := dk_180 0 235 (dk_at dksX3_unsure_1 14 rfl rfl)
theorem dX3_unsure_41 : decode cX3_unsure 41 = .ok (.ifCond .eq 8, 3) := dk_153 0 8 (dk_at dksX3_unsure_1 17 rfl rfl)
theorem dX3_unsure_44 : decode cX3_unsure 44 = .ok (.aload_n 0, 1) := dk_42 (dk_at dksX3_unsure_1 20 rfl rfl)
theorem dX3_unsure_45 : decode cX3_unsure 45 = .ok (.iconst 3, 1) := dk_6 (dk_at dksX3_unsure_1 21 rfl rfl)
theorem dX3_unsure_46 : decode cX3_unsure 46 = .ok (.invokevirtual 56, 3) := dk_182 0 56 (dk_at dksX3_unsure_2 0 rfl rfl)
theorem dX3_unsure_49 : decode cX3_unsure 49 = .ok (.aload_n 0, 1) := dk_42 (dk_at dksX3_unsure_2 3 rfl rfl)
theorem dX3_unsure_50 : decode cX3_unsure 50 = .ok (.invokevirtual 49, 3) := dk_182 0 49 (dk_at dksX3_unsure_2 4 rfl rfl)
theorem dX3_unsure_53 : decode cX3_unsure 53 = .ok (.aload_n 0, 1) := dk_42 (dk_at dksX3_unsure_2 7 rfl rfl)
theorem dX3_unsure_54 : decode cX3_unsure 54 = .ok (.iconst 0, 1) := dk_3 (dk_at dksX3_unsure_2 8 rfl rfl)
theorem dX3_unsure_55 : decode cX3_unsure 55 = .ok (.bipush 20, 2) := dk_16 20 (dk_at dksX3_unsure_2 9 rfl rfl)
theorem dX3_unsure_57 : decode cX3_unsure 57 = .ok (.invokevirtual 75, 3) := dk_182 0 75 (dk_at dksX3_unsure_2 11 rfl rfl)
theorem dX3_unsure_60 : decode cX3_unsure 60 = .ok (.istore_n 2, 1) := dk_61 (dk_at dksX3_unsure_2 14 rfl rfl)
theorem dX3_unsure_61 : decode cX3_unsure 61 = .ok (.aload_n 0, 1) := dk_42 (dk_at dksX3_unsure_2 15 rfl rfl)
theorem dX3_unsure_62 : decode cX3_unsure 62 = .ok (.invokevirtual 36, 3) := dk_182 0 36 (dk_at dksX3_unsure_2 16 rfl rfl)
theorem dX3_unsure_65 : decode cX3_unsure 65 = .ok (.ifCond .eq 4, 3) := dk_153 0 4 (dk_at dksX3_unsure_2 19 rfl rfl)
theorem dX3_unsure_68 : decode cX3_unsure 68 = .ok (.return_, 1) := dk_177 (dk_at dksX3_unsure_2 22 rfl rfl)
theorem dX3_unsure_69 : decode cX3_unsure 69 = .ok (.aload_n 0, 1) := dk_42 (dk_at dksX3_unsure_2 23 rfl rfl)
theorem dX3_unsure_70 : decode cX3_unsure 70 = .ok (.getfield 12, 3) := dk_180 0 12 (dk_at dksX3_unsure_3 0 rfl rfl)
theorem dX3_unsure_73 : decode cX3_unsure 73 = .ok (.getfield 102, 3) := dk_180 0 102 (dk_at dksX3_unsure_3 3 rfl rfl)
theorem dX3_unsure_76 : decode cX3_unsure 76 = .ok (.iload_n 1, 1) := dk_27 (dk_at dksX3_unsure_3 6 rfl rfl)
theorem dX3_unsure_77 : decode cX3_unsure 77 = .ok (.invokevirtual 206, 3) := dk_182 0 206 (dk_at dksX3_unsure_3 7 rfl rfl)
theorem dX3_unsure_80 : decode cX3_unsure 80 = .ok (.checkcast 183, 3) := dk_192 0 183 (dk_at dksX3_unsure_3 10 rfl rfl)
theorem dX3_unsure_83 : decode cX3_unsure 83 = .ok (.iconst 1, 1) := dk_4 (dk_at dksX3_unsure_3 13 rfl rfl)
theorem dX3_unsure_84 : decode cX3_unsure 84 = .ok (.putfield 235, 3) := dk_181 0 235 (dk_at dksX3_unsure_3 14 rfl rfl)
theorem dX3_unsure_87 : decode cX3_unsure 87 = .ok (.aload_n 0, 1) := dk_42 (dk_at dksX3_unsure_3 17 rfl rfl)
theorem dX3_unsure_88 : decode cX3_unsure 88 = .ok (.getfield 12, 3) := dk_180 0 12 (dk_at dksX3_unsure_3 18 rfl rfl)
theorem dX3_unsure_91 : decode cX3_unsure 91 = .ok (.getfield 102, 3) := dk_180 0 102 (dk_at dksX3_unsure_3 21 rfl rfl)
theorem dX3_unsure_94 : decode cX3_unsure 94 = .ok (.iload_n 1, 1) := dk_27 (dk_at dksX3_unsure_4 0 rfl rfl)
theorem dX3_unsure_95 : decode cX3_unsure 95 = .ok (.invokevirtual 206, 3) := dk_182 0 206 (dk_at dksX3_unsure_4 1 rfl rfl)
theorem dX3_unsure_98 : decode cX3_unsure 98 = .ok (.checkcast 183, 3) := dk_192 0 183 (dk_at dksX3_unsure_4 4 rfl rfl)
theorem dX3_unsure_101 : decode cX3_unsure 101 = .ok (.iload_n 2, 1) := dk_28 (dk_at dksX3_unsure_4 7 rfl rfl)
theorem dX3_unsure_102 : decode cX3_unsure 102 = .ok (.putfield 238, 3) := dk_181 0 238 (dk_at dksX3_unsure_4 8 rfl rfl)
theorem dX3_unsure_105 : decode cX3_unsure 105 = .ok (.aload_n 0, 1) := dk_42 (dk_at dksX3_unsure_4 11 rfl rfl)
theorem dX3_unsure_106 : decode cX3_unsure 106 = .ok (.getfield 12, 3) := dk_180 0 12 (dk_at dksX3_unsure_4 12 rfl rfl)
theorem dX3_unsure_109 : decode cX3_unsure 109 = .ok (.getfield 241, 3) := dk_180 0 241 (dk_at dksX3_unsure_4 15 rfl rfl)
theorem dX3_unsure_112 : decode cX3_unsure 112 = .ok (.aload_n 0, 1) := dk_42 (dk_at dksX3_unsure_4 18 rfl rfl)
theorem dX3_unsure_113 : decode cX3_unsure 113 = .ok (.getfield 12, 3) := dk_180 0 12 (dk_at dksX3_unsure_4 19 rfl rfl)
theorem dX3_unsure_116 : decode cX3_unsure 116 = .ok (.getfield 232, 3) := dk_180 0 232 (dk_at dksX3_unsure_5 0 rfl rfl)
theorem dX3_unsure_119 : decode cX3_unsure 119 = .ok (.iload_n 1, 1) := dk_27 (dk_at dksX3_unsure_5 3 rfl rfl)
theorem dX3_unsure_120 : decode cX3_unsure 120 = .ok (.iastore, 1) := dk_79 (dk_at dksX3_unsure_5 4 rfl rfl)
theorem dX3_unsure_121 : decode cX3_unsure 121 = .ok (.aload_n 0, 1) := dk_42 (dk_at dksX3_unsure_5 5 rfl rfl)
theorem dX3_unsure_122 : decode cX3_unsure 122 = .ok (.getfield 12, 3) := dk_180 0 12 (dk_at dksX3_unsure_5 6 rfl rfl)
theorem dX3_unsure_125 : decode cX3_unsure 125 = .ok (.dup, 1) := dk_89 (dk_at dksX3_unsure_5 9 rfl rfl)
theorem dX3_unsure_126 : decode cX3_unsure 126 = .ok (.getfield 232, 3) := dk_180 0 232 (dk_at dksX3_unsure_5 10 rfl rfl)
theorem dX3_unsure_129 : decode cX3_unsure 129 = .ok (.iconst 1, 1) := dk_4 (dk_at dksX3_unsure_5 13 rfl rfl)
theorem dX3_unsure_130 : decode cX3_unsure 130 = .ok (.iadd, 1) := dk_96 (dk_at dksX3_unsure_5 14 rfl rfl)
theorem dX3_unsure_131 : decode cX3_unsure 131 = .ok (.putfield 232, 3) := dk_181 0 232 (dk_at dksX3_unsure_5 15 rfl rfl)
theorem dX3_unsure_134 : decode cX3_unsure 134 = .ok (.return_, 1) := dk_177 (dk_at dksX3_unsure_5 18 rfl rfl)
abbrev cX3_heard : ByteArray := prog_10_method_21_code
def yX3_heard : MethodName := ⟨RX3, "heard", "()V"⟩
def dkwX3_heard_4 : List UInt8 := [89, 27, 28, 29, 183, 0, 253, 182, 0, 203, 87, 177]
abbrev dktX3_heard_4 : List UInt8 := dkwX3_heard_4 ++ []
def dkwX3_heard_3 : List UInt8 := [180, 0, 99, 182, 0, 147, 62, 42, 182, 0, 36, 154, 0, 24, 42, 180, 0, 12, 180, 0, 244, 187, 0, 251]
abbrev dktX3_heard_3 : List UInt8 := dkwX3_heard_3 ++ dktX3_heard_4
def dkwX3_heard_2 : List UInt8 := [182, 0, 248, 153, 0, 8, 42, 6, 182, 0, 56, 42, 182, 0, 49, 42, 18, 194, 3, 42, 180, 0, 12]
abbrev dktX3_heard_2 : List UInt8 := dkwX3_heard_2 ++ dktX3_heard_3
def dkwX3_heard_1 : List UInt8 := [182, 0, 71, 42, 4, 16, 30, 182, 0, 67, 61, 42, 182, 0, 36, 154, 0, 20, 42, 180, 0, 12, 27, 28]
abbrev dktX3_heard_1 : List UInt8 := dkwX3_heard_1 ++ dktX3_heard_2
def dkwX3_heard_0 : List UInt8 := [42, 42, 180, 0, 12, 180, 0, 244, 182, 0, 176, 16, 8, 182, 0, 179, 42, 182, 0, 220, 60, 42, 18, 246]
abbrev dktX3_heard_0 : List UInt8 := dkwX3_heard_0 ++ dktX3_heard_1
theorem dksX3_heard_0 : cX3_heard.data.toList.drop 0 = dktX3_heard_0 := by decide +kernel
theorem dksX3_heard_1 : cX3_heard.data.toList.drop 24 = dktX3_heard_1 := dk_seg dksX3_heard_0 24 rfl rfl
theorem dksX3_heard_2 : cX3_heard.data.toList.drop 48 = dktX3_heard_2 := dk_seg dksX3_heard_1 24 rfl rfl
theorem dksX3_heard_3 : cX3_heard.data.toList.drop 71 = dktX3_heard_3 := dk_seg dksX3_heard_2 23 rfl rfl
theorem dksX3_heard_4 : cX3_heard.data.toList.drop 95 = dktX3_heard_4 := dk_seg dksX3_heard_3 24 rfl rfl
theorem dX3_heard_0 : decode cX3_heard 0 = .ok (.aload_n 0, 1) := dk_42 (dk_at dksX3_heard_0 0 rfl rfl)
theorem dX3_heard_1 : decode cX3_heard 1 = .ok (.aload_n 0, 1) := dk_42 (dk_at dksX3_heard_0 1 rfl rfl)
theorem dX3_heard_2 : decode cX3_heard 2 = .ok (.getfield 12, 3) := dk_180 0 12 (dk_at dksX3_heard_0 2 rfl rfl)
theorem dX3_heard_5 : decode cX3_heard 5 = .ok (.getfield 244, 3) := dk_180 0 244 (dk_at dksX3_heard_0 5 rfl rfl)
theorem dX3_heard_8 : decode cX3_heard 8 = .ok (.invokevirtual 176, 3) := dk_182 0 176 (dk_at dksX3_heard_0 8 rfl rfl)
theorem dX3_heard_11 : decode cX3_heard 11 = .ok (.bipush 8, 2) := dk_16 8 (dk_at dksX3_heard_0 11 rfl rfl)
theorem dX3_heard_13 : decode cX3_heard 13 = .ok (.invokevirtual 179, 3) := dk_182 0 179 (dk_at dksX3_heard_0 13 rfl rfl)
theorem dX3_heard_16 : decode cX3_heard 16 = .ok (.aload_n 0, 1) := dk_42 (dk_at dksX3_heard_0 16 rfl rfl)
theorem dX3_heard_17 : decode cX3_heard 17 = .ok (.invokevirtual 220, 3) := dk_182 0 220 (dk_at dksX3_heard_0 17 rfl rfl)
theorem dX3_heard_20 : decode cX3_heard 20 = .ok (.istore_n 1, 1) := dk_60 (dk_at dksX3_heard_0 20 rfl rfl)
theorem dX3_heard_21 : decode cX3_heard 21 = .ok (.aload_n 0, 1) := dk_42 (dk_at dksX3_heard_0 21 rfl rfl)
theorem dX3_heard_22 : decode cX3_heard 22 = .ok (.ldc 246, 2) := dk_18 246 (dk_at dksX3_heard_0 22 rfl rfl)
theorem dX3_heard_24 : decode cX3_heard 24 = .ok (.invokevirtual 71, 3) := dk_182 0 71 (dk_at dksX3_heard_1 0 rfl rfl)
theorem dX3_heard_27 : decode cX3_heard 27 = .ok (.aload_n 0, 1) := dk_42 (dk_at dksX3_heard_1 3 rfl rfl)
theorem dX3_heard_28 : decode cX3_heard 28 = .ok (.iconst 1, 1) := dk_4 (dk_at dksX3_heard_1 4 rfl rfl)
theorem dX3_heard_29 : decode cX3_heard 29 = .ok (.bipush 30, 2) := dk_16 30 (dk_at dksX3_heard_1 5 rfl rfl)
theorem dX3_heard_31 : decode cX3_heard 31 = .ok (.invokevirtual 67, 3) := dk_182 0 67 (dk_at dksX3_heard_1 7 rfl rfl)
theorem dX3_heard_34 : decode cX3_heard 34 = .ok (.istore_n 2, 1) := dk_61 (dk_at dksX3_heard_1 10 rfl rfl)
theorem dX3_heard_35 : decode cX3_heard 35 = .ok (.aload_n 0, 1) := dk_42 (dk_at dksX3_heard_1 11 rfl rfl)
theorem dX3_heard_36 : decode cX3_heard 36 = .ok (.invokevirtual 36, 3) := dk_182 0 36 (dk_at dksX3_heard_1 12 rfl rfl)
theorem dX3_heard_39 : decode cX3_heard 39 = .ok (.ifCond .ne 20, 3) := dk_154 0 20 (dk_at dksX3_heard_1 15 rfl rfl)
theorem dX3_heard_42 : decode cX3_heard 42 = .ok (.aload_n 0, 1) := dk_42 (dk_at dksX3_heard_1 18 rfl rfl)
theorem dX3_heard_43 : decode cX3_heard 43 = .ok (.getfield 12, 3) := dk_180 0 12 (dk_at dksX3_heard_1 19 rfl rfl)
theorem dX3_heard_46 : decode cX3_heard 46 = .ok (.iload_n 1, 1) := dk_27 (dk_at dksX3_heard_1 22 rfl rfl)
theorem dX3_heard_47 : decode cX3_heard 47 = .ok (.iload_n 2, 1) := dk_28 (dk_at dksX3_heard_1 23 rfl rfl)
theorem dX3_heard_48 : decode cX3_heard 48 = .ok (.invokevirtual 248, 3) := dk_182 0 248 (dk_at dksX3_heard_2 0 rfl rfl)
theorem dX3_heard_51 : decode cX3_heard 51 = .ok (.ifCond .eq 8, 3) := dk_153 0 8 (dk_at dksX3_heard_2 3 rfl rfl)
theorem dX3_heard_54 : decode cX3_heard 54 = .ok (.aload_n 0, 1) := dk_42 (dk_at dksX3_heard_2 6 rfl rfl)
theorem dX3_heard_55 : decode cX3_heard 55 = .ok (.iconst 3, 1) := dk_6 (dk_at dksX3_heard_2 7 rfl rfl)
theorem dX3_heard_56 : decode cX3_heard 56 = .ok (.invokevirtual 56, 3) := dk_182 0 56 (dk_at dksX3_heard_2 8 rfl rfl)
theorem dX3_heard_59 : decode cX3_heard 59 = .ok (.aload_n 0, 1) := dk_42 (dk_at dksX3_heard_2 11 rfl rfl)
theorem dX3_heard_60 : decode cX3_heard 60 = .ok (.invokevirtual 49, 3) := dk_182 0 49 (dk_at dksX3_heard_2 12 rfl rfl)
theorem dX3_heard_63 : decode cX3_heard 63 = .ok (.aload_n 0, 1) := dk_42 (dk_at dksX3_heard_2 15 rfl rfl)
theorem dX3_heard_64 : decode cX3_heard 64 = .ok (.ldc 194, 2) := dk_18 194 (dk_at dksX3_heard_2 16 rfl rfl)
theorem dX3_heard_66 : decode cX3_heard 66 = .ok (.iconst 0, 1) := dk_3 (dk_at dksX3_heard_2 18 rfl rfl)
theorem dX3_heard_67 : decode cX3_heard 67 = .ok (.aload_n 0, 1) := dk_42 (dk_at dksX3_heard_2 19 rfl rfl)
theorem dX3_heard_68 : decode cX3_heard 68 = .ok (.getfield 12, 3) := dk_180 0 12 (dk_at dksX3_heard_2 20 rfl rfl)
theorem dX3_heard_71 : decode cX3_heard 71 = .ok (.getfield 99, 3) := dk_180 0 99 (dk_at dksX3_heard_3 0 rfl rfl)
theorem dX3_heard_74 : decode cX3_heard 74 = .ok (.invokevirtual 147, 3) := dk_182 0 147 (dk_at dksX3_heard_3 3 rfl rfl)
theorem dX3_heard_77 : decode cX3_heard 77 = .ok (.istore_n 3, 1) := dk_62 (dk_at dksX3_heard_3 6 rfl rfl)
theorem dX3_heard_78 : decode cX3_heard 78 = .ok (.aload_n 0, 1) := dk_42 (dk_at dksX3_heard_3 7 rfl rfl)
theorem dX3_heard_79 : decode cX3_heard 79 = .ok (.invokevirtual 36, 3) := dk_182 0 36 (dk_at dksX3_heard_3 8 rfl rfl)
theorem dX3_heard_82 : decode cX3_heard 82 = .ok (.ifCond .ne 24, 3) := dk_154 0 24 (dk_at dksX3_heard_3 11 rfl rfl)
theorem dX3_heard_85 : decode cX3_heard 85 = .ok (.aload_n 0, 1) := dk_42 (dk_at dksX3_heard_3 14 rfl rfl)
theorem dX3_heard_86 : decode cX3_heard 86 = .ok (.getfield 12, 3) := dk_180 0 12 (dk_at dksX3_heard_3 15 rfl rfl)
theorem dX3_heard_89 : decode cX3_heard 89 = .ok (.getfield 244, 3) := dk_180 0 244 (dk_at dksX3_heard_3 18 rfl rfl)
theorem dX3_heard_92 : decode cX3_heard 92 = .ok (.new 251, 3) := dk_187 0 251 (dk_at dksX3_heard_3 21 rfl rfl)
theorem dX3_heard_95 : decode cX3_heard 95 = .ok (.dup, 1) := dk_89 (dk_at dksX3_heard_4 0 rfl rfl)
theorem dX3_heard_96 : decode cX3_heard 96 = .ok (.iload_n 1, 1) := dk_27 (dk_at dksX3_heard_4 1 rfl rfl)
theorem dX3_heard_97 : decode cX3_heard 97 = .ok (.iload_n 2, 1) := dk_28 (dk_at dksX3_heard_4 2 rfl rfl)
theorem dX3_heard_98 : decode cX3_heard 98 = .ok (.iload_n 3, 1) := dk_29 (dk_at dksX3_heard_4 3 rfl rfl)
theorem dX3_heard_99 : decode cX3_heard 99 = .ok (.invokespecial 253, 3) := dk_183 0 253 (dk_at dksX3_heard_4 4 rfl rfl)
theorem dX3_heard_102 : decode cX3_heard 102 = .ok (.invokevirtual 203, 3) := dk_182 0 203 (dk_at dksX3_heard_4 7 rfl rfl)
theorem dX3_heard_105 : decode cX3_heard 105 = .ok (.pop, 1) := dk_87 (dk_at dksX3_heard_4 10 rfl rfl)
theorem dX3_heard_106 : decode cX3_heard 106 = .ok (.return_, 1) := dk_177 (dk_at dksX3_heard_4 11 rfl rfl)
abbrev cX3_eatsSemicolon : ByteArray := prog_10_method_5_code
def yX3_eatsSemicolon : MethodName := ⟨RX3, "eatsSemicolon", "()Z"⟩
def dkwX3_eatsSemicolon_1 : List UInt8 := [4, 172]
abbrev dktX3_eatsSemicolon_1 : List UInt8 := dkwX3_eatsSemicolon_1 ++ []
def dkwX3_eatsSemicolon_0 : List UInt8 := [42, 182, 0, 36, 154, 0, 14, 42, 180, 0, 28, 180, 0, 46, 7, 159, 0, 5, 3, 172, 42, 182, 0, 49]
abbrev dktX3_eatsSemicolon_0 : List UInt8 := dkwX3_eatsSemicolon_0 ++ dktX3_eatsSemicolon_1
theorem dksX3_eatsSemicolon_0 : cX3_eatsSemicolon.data.toList.drop 0 = dktX3_eatsSemicolon_0 := by decide +kernel
theorem dksX3_eatsSemicolon_1 : cX3_eatsSemicolon.data.toList.drop 24 = dktX3_eatsSemicolon_1 := dk_seg dksX3_eatsSemicolon_0 24 rfl rfl
theorem dX3_eatsSemicolon_0 : decode cX3_eatsSemicolon 0 = .ok (.aload_n 0, 1) := dk_42 (dk_at dksX3_eatsSemicolon_0 0 rfl rfl)
theorem dX3_eatsSemicolon_1 : decode cX3_eatsSemicolon 1 = .ok (.invokevirtual 36, 3) := dk_182 0 36 (dk_at dksX3_eatsSemicolon_0 1 rfl rfl)
theorem dX3_eatsSemicolon_4 : decode cX3_eatsSemicolon 4 = .ok (.ifCond .ne 14, 3) := dk_154 0 14 (dk_at dksX3_eatsSemicolon_0 4 rfl rfl)
theorem dX3_eatsSemicolon_7 : decode cX3_eatsSemicolon 7 = .ok (.aload_n 0, 1) := dk_42 (dk_at dksX3_eatsSemicolon_0 7 rfl rfl)
theorem dX3_eatsSemicolon_8 : decode cX3_eatsSemicolon 8 = .ok (.getfield 28, 3) := dk_180 0 28 (dk_at dksX3_eatsSemicolon_0 8 rfl rfl)
theorem dX3_eatsSemicolon_11 : decode cX3_eatsSemicolon 11 = .ok (.getfield 46, 3) := dk_180 0 46 (dk_at dksX3_eatsSemicolon_0 11 rfl rfl)
theorem dX3_eatsSemicolon_14 : decode cX3_eatsSemicolon 14 = .ok (.iconst 4, 1) := dk_7 (dk_at dksX3_eatsSemicolon_0 14 rfl rfl)
theorem dX3_eatsSemicolon_15 : decode cX3_eatsSemicolon 15 = .ok (.if_icmp .eq 5, 3) := dk_159 0 5 (dk_at dksX3_eatsSemicolon_0 15 rfl rfl)
theorem dX3_eatsSemicolon_18 : decode cX3_eatsSemicolon 18 = .ok (.iconst 0, 1) := dk_3 (dk_at dksX3_eatsSemicolon_0 18 rfl rfl)
theorem dX3_eatsSemicolon_19 : decode cX3_eatsSemicolon 19 = .ok (.ireturn, 1) := dk_172 (dk_at dksX3_eatsSemicolon_0 19 rfl rfl)
theorem dX3_eatsSemicolon_20 : decode cX3_eatsSemicolon 20 = .ok (.aload_n 0, 1) := dk_42 (dk_at dksX3_eatsSemicolon_0 20 rfl rfl)
theorem dX3_eatsSemicolon_21 : decode cX3_eatsSemicolon 21 = .ok (.invokevirtual 49, 3) := dk_182 0 49 (dk_at dksX3_eatsSemicolon_0 21 rfl rfl)
theorem dX3_eatsSemicolon_24 : decode cX3_eatsSemicolon 24 = .ok (.iconst 1, 1) := dk_4 (dk_at dksX3_eatsSemicolon_1 0 rfl rfl)
theorem dX3_eatsSemicolon_25 : decode cX3_eatsSemicolon 25 = .ok (.ireturn, 1) := dk_172 (dk_at dksX3_eatsSemicolon_1 1 rfl rfl)
theorem q127 : (Jvm.Cond.initialized "FigureKnee$Reader") ∈ lw_all := lw_g (lw_at lw_m1 6 rfl) rfl
theorem q269 : (Jvm.Cond.instantiable "FigureKnee$Reader" (5 : Nat)) ∈ lw_all := lw_g (lw_at lw_m1 148 rfl) rfl
theorem q287 : (Jvm.Cond.instanceMethod ({ cls := "FigureKnee$Reader", name := "<init>", desc := "(LFigureKnee$Tokens;)V" } : Jvm.MethodName)) ∈ lw_all := lw_g (lw_at lw_m1 166 rfl) rfl
theorem q288 : (Jvm.Cond.code ({ cls := "FigureKnee$Reader", name := "<init>", desc := "(LFigureKnee$Tokens;)V" } : Jvm.MethodName) prog_10_method_1_code (2 : Nat) (Option.none : Option Jvm.ClassFile.FieldType)) ∈ lw_all := lw_g (lw_at lw_m1 167 rfl) rfl
theorem q289 : (Jvm.Cond.methodLink "FigureKnee$Reader" (3 : Nat) ({ cls := "java/lang/Object", name := "<init>", desc := "()V" } : Jvm.MethodName)) ∈ lw_all := lw_g (lw_at lw_m1 168 rfl) rfl
theorem q290 : (Jvm.Cond.classLink "FigureKnee$Reader" (9 : Nat) "FigureKnee$Pier") ∈ lw_all := lw_g (lw_at lw_m1 169 rfl) rfl
theorem q292 : (Jvm.Cond.methodLinkNest "FigureKnee$Reader" (11 : Nat) ({ cls := "FigureKnee$Pier", name := "<init>", desc := "()V" } : Jvm.MethodName) "FigureKnee") ∈ lw_tbl := lw_at lw_m1 171 rfl
theorem q299 : (Jvm.Cond.fieldLink "FigureKnee$Reader" (99 : Nat) "FigureKnee$Pier" "words" "I") ∈ lw_all := lw_g (lw_at lw_m1 178 rfl) rfl
theorem q301 : (Jvm.Cond.fieldLink "FigureKnee$Reader" (153 : Nat) "FigureKnee$Pier" "dumb" "I") ∈ lw_all := lw_g (lw_at lw_m1 180 rfl) rfl
theorem q303 : (Jvm.Cond.fieldLink "FigureKnee$Reader" (214 : Nat) "FigureKnee$Pier" "contracts" "I") ∈ lw_all := lw_g (lw_at lw_m1 182 rfl) rfl
theorem q305 : (Jvm.Cond.fieldLink "FigureKnee$Reader" (232 : Nat) "FigureKnee$Pier" "unsures" "I") ∈ lw_all := lw_g (lw_at lw_m1 184 rfl) rfl
theorem q309 : (Jvm.Cond.fieldLink "FigureKnee$Reader" (102 : Nat) "FigureKnee$Pier" "pairs" "Ljava/util/ArrayList;") ∈ lw_all := lw_g (lw_at lw_m1 188 rfl) rfl
theorem q313 : (Jvm.Cond.fieldLink "FigureKnee$Reader" (217 : Nat) "FigureKnee$Pier" "debts" "Ljava/util/ArrayList;") ∈ lw_all := lw_g (lw_at lw_m1 192 rfl) rfl
theorem q316 : (Jvm.Cond.fieldLink "FigureKnee$Reader" (244 : Nat) "FigureKnee$Pier" "heard" "Ljava/util/ArrayList;") ∈ lw_all := lw_g (lw_at lw_m1 195 rfl) rfl
theorem q319 : (Jvm.Cond.fieldLink "FigureKnee$Reader" (241 : Nat) "FigureKnee$Pier" "unsure" "[I") ∈ lw_all := lw_g (lw_at lw_m1 198 rfl) rfl
theorem q338 : (Jvm.Cond.methodLink "FigureKnee$Reader" (22 : Nat) ({ cls := "FigureKnee$Tokens", name := "next", desc := "()LFigureKnee$Token;" } : Jvm.MethodName)) ∈ lw_all := lw_g (lw_at lw_m1 217 rfl) rfl
theorem q354 : (Jvm.Cond.fieldLink "FigureKnee$Reader" (46 : Nat) "FigureKnee$Token" "sort" "I") ∈ lw_all := lw_g (lw_at lw_m1 233 rfl) rfl
theorem q356 : (Jvm.Cond.fieldLink "FigureKnee$Reader" (40 : Nat) "FigureKnee$Token" "place" "I") ∈ lw_all := lw_g (lw_at lw_m1 235 rfl) rfl
theorem q358 : (Jvm.Cond.fieldLink "FigureKnee$Reader" (60 : Nat) "FigureKnee$Token" "number" "I") ∈ lw_all := lw_g (lw_at lw_m1 237 rfl) rfl
theorem q360 : (Jvm.Cond.fieldLink "FigureKnee$Reader" (81 : Nat) "FigureKnee$Token" "word" "Ljava/lang/String;") ∈ lw_all := lw_g (lw_at lw_m1 239 rfl) rfl
theorem q560 : (Jvm.Cond.fieldLink "FigureKnee$Reader" (18 : Nat) "FigureKnee$Reader" "tokens" "LFigureKnee$Tokens;") ∈ lw_all := lw_g (lw_at lw_m2 199 rfl) rfl
theorem q561 : (Jvm.Cond.fieldLink "FigureKnee$Reader" (12 : Nat) "FigureKnee$Reader" "pier" "LFigureKnee$Pier;") ∈ lw_all := lw_g (lw_at lw_m2 200 rfl) rfl
theorem q562 : (Jvm.Cond.fieldLink "FigureKnee$Reader" (28 : Nat) "FigureKnee$Reader" "now" "LFigureKnee$Token;") ∈ lw_all := lw_g (lw_at lw_m2 201 rfl) rfl
theorem q563 : (Jvm.Cond.fieldLink "FigureKnee$Reader" (32 : Nat) "FigureKnee$Reader" "fault" "I") ∈ lw_all := lw_g (lw_at lw_m2 202 rfl) rfl
theorem q565 : (Jvm.Cond.fieldLink "FigureKnee$Reader" (45 : Nat) "FigureKnee$Reader" "place" "I") ∈ lw_all := lw_g (lw_at lw_m2 204 rfl) rfl
theorem q567 : (Jvm.Cond.laysFinal "FigureKnee$Reader" "FigureKnee$Reader" "tokens" "LFigureKnee$Tokens;") ∈ lw_all := lw_g (lw_at lw_m2 206 rfl) rfl
theorem q568 : (Jvm.Cond.soleField "FigureKnee$Reader" "tokens") ∈ lw_all := lw_g (lw_at lw_m2 207 rfl) rfl
theorem q569 : (Jvm.Cond.laysFinal "FigureKnee$Reader" "FigureKnee$Reader" "pier" "LFigureKnee$Pier;") ∈ lw_all := lw_g (lw_at lw_m2 208 rfl) rfl
theorem q570 : (Jvm.Cond.soleField "FigureKnee$Reader" "pier") ∈ lw_all := lw_g (lw_at lw_m2 209 rfl) rfl
theorem q571 : (Jvm.Cond.lays "FigureKnee$Reader" "FigureKnee$Reader" "now" "LFigureKnee$Token;") ∈ lw_all := lw_g (lw_at lw_m2 210 rfl) rfl
theorem q572 : (Jvm.Cond.soleField "FigureKnee$Reader" "now") ∈ lw_all := lw_g (lw_at lw_m2 211 rfl) rfl
theorem q573 : (Jvm.Cond.lays "FigureKnee$Reader" "FigureKnee$Reader" "fault" "I") ∈ lw_all := lw_g (lw_at lw_m2 212 rfl) rfl
theorem q574 : (Jvm.Cond.soleField "FigureKnee$Reader" "fault") ∈ lw_all := lw_g (lw_at lw_m2 213 rfl) rfl
theorem q575 : (Jvm.Cond.lays "FigureKnee$Reader" "FigureKnee$Reader" "place" "I") ∈ lw_all := lw_g (lw_at lw_m2 214 rfl) rfl
theorem q576 : (Jvm.Cond.soleField "FigureKnee$Reader" "place") ∈ lw_all := lw_g (lw_at lw_m2 215 rfl) rfl
theorem q577 : (Jvm.Cond.superclass "FigureKnee$Reader" "java/lang/Object") ∈ lw_all := lw_g (lw_at lw_m2 216 rfl) rfl
theorem q579 : (Jvm.Cond.instanceMethod ({ cls := "FigureKnee$Reader", name := "read", desc := "()LFigureKnee$Pier;" } : Jvm.MethodName)) ∈ lw_all := lw_g (lw_at lw_m2 218 rfl) rfl
theorem q580 : (Jvm.Cond.selects "FigureKnee$Reader" ({ cls := "FigureKnee$Reader", name := "read", desc := "()LFigureKnee$Pier;" } : Jvm.MethodName) ({ cls := "FigureKnee$Reader", name := "read", desc := "()LFigureKnee$Pier;" } : Jvm.MethodName)) ∈ lw_all := lw_g (lw_at lw_m2 219 rfl) rfl
theorem q581 : (Jvm.Cond.code ({ cls := "FigureKnee$Reader", name := "read", desc := "()LFigureKnee$Pier;" } : Jvm.MethodName) prog_10_method_12_code (1 : Nat) (Option.some (Jvm.ClassFile.FieldType.object "FigureKnee$Pier"))) ∈ lw_all := lw_g (lw_at lw_m2 220 rfl) rfl
theorem q582 : (Jvm.Cond.methodLink "FigureKnee$Reader" (93 : Nat) ({ cls := "FigureKnee$Reader", name := "line", desc := "()V" } : Jvm.MethodName)) ∈ lw_all := lw_g (lw_at lw_m2 221 rfl) rfl
theorem q583 : (Jvm.Cond.privateMethod ({ cls := "FigureKnee$Reader", name := "line", desc := "()V" } : Jvm.MethodName)) ∈ lw_tbl := lw_at lw_m2 222 rfl
theorem q584 : (Jvm.Cond.instanceMethod ({ cls := "FigureKnee$Reader", name := "line", desc := "()V" } : Jvm.MethodName)) ∈ lw_all := lw_g (lw_at lw_m2 223 rfl) rfl
theorem q585 : (Jvm.Cond.code ({ cls := "FigureKnee$Reader", name := "line", desc := "()V" } : Jvm.MethodName) prog_10_method_13_code (3 : Nat) (Option.none : Option Jvm.ClassFile.FieldType)) ∈ lw_all := lw_g (lw_at lw_m2 224 rfl) rfl
theorem q586 : (Jvm.Cond.stringRef "FigureKnee$Reader" (111 : Nat) "") ∈ lw_tbl := lw_at lw_m2 225 rfl
theorem q587 : (Jvm.Cond.methodLink "FigureKnee$Reader" (113 : Nat) ({ cls := "java/lang/String", name := "hashCode", desc := "()I" } : Jvm.MethodName)) ∈ lw_all := lw_g (lw_at lw_m2 226 rfl) rfl
theorem q640 : (Jvm.Cond.stringRef "FigureKnee$Reader" (118 : Nat) "pier") ∈ lw_tbl := lw_at lw_m3 39 rfl
theorem q641 : (Jvm.Cond.methodLink "FigureKnee$Reader" (119 : Nat) ({ cls := "java/lang/String", name := "equals", desc := "(Ljava/lang/Object;)Z" } : Jvm.MethodName)) ∈ lw_all := lw_g (lw_at lw_m3 40 rfl) rfl
theorem q649 : (Jvm.Cond.stringRef "FigureKnee$Reader" (123 : Nat) "pair") ∈ lw_tbl := lw_at lw_m3 48 rfl
theorem q650 : (Jvm.Cond.stringRef "FigureKnee$Reader" (125 : Nat) "contract") ∈ lw_tbl := lw_at lw_m3 49 rfl
theorem q651 : (Jvm.Cond.stringRef "FigureKnee$Reader" (127 : Nat) "debt") ∈ lw_tbl := lw_at lw_m3 50 rfl
theorem q652 : (Jvm.Cond.stringRef "FigureKnee$Reader" (129 : Nat) "unsure") ∈ lw_tbl := lw_at lw_m3 51 rfl
theorem q653 : (Jvm.Cond.stringRef "FigureKnee$Reader" (131 : Nat) "heard") ∈ lw_tbl := lw_at lw_m3 52 rfl
theorem q654 : (Jvm.Cond.methodLink "FigureKnee$Reader" (133 : Nat) ({ cls := "FigureKnee$Reader", name := "pierLine", desc := "()V" } : Jvm.MethodName)) ∈ lw_all := lw_g (lw_at lw_m3 53 rfl) rfl
theorem q655 : (Jvm.Cond.privateMethod ({ cls := "FigureKnee$Reader", name := "pierLine", desc := "()V" } : Jvm.MethodName)) ∈ lw_tbl := lw_at lw_m3 54 rfl
theorem q656 : (Jvm.Cond.instanceMethod ({ cls := "FigureKnee$Reader", name := "pierLine", desc := "()V" } : Jvm.MethodName)) ∈ lw_all := lw_g (lw_at lw_m3 55 rfl) rfl
theorem q657 : (Jvm.Cond.code ({ cls := "FigureKnee$Reader", name := "pierLine", desc := "()V" } : Jvm.MethodName) prog_10_method_15_code (3 : Nat) (Option.none : Option Jvm.ClassFile.FieldType)) ∈ lw_all := lw_g (lw_at lw_m3 56 rfl) rfl
theorem q658 : (Jvm.Cond.methodLink "FigureKnee$Reader" (56 : Nat) ({ cls := "FigureKnee$Reader", name := "wrong", desc := "(I)V" } : Jvm.MethodName)) ∈ lw_all := lw_g (lw_at lw_m3 57 rfl) rfl
theorem q659 : (Jvm.Cond.privateMethod ({ cls := "FigureKnee$Reader", name := "wrong", desc := "(I)V" } : Jvm.MethodName)) ∈ lw_tbl := lw_at lw_m3 58 rfl
theorem q660 : (Jvm.Cond.instanceMethod ({ cls := "FigureKnee$Reader", name := "wrong", desc := "(I)V" } : Jvm.MethodName)) ∈ lw_all := lw_g (lw_at lw_m3 59 rfl) rfl
theorem q661 : (Jvm.Cond.code ({ cls := "FigureKnee$Reader", name := "wrong", desc := "(I)V" } : Jvm.MethodName) prog_10_method_3_code (2 : Nat) (Option.none : Option Jvm.ClassFile.FieldType)) ∈ lw_all := lw_g (lw_at lw_m3 60 rfl) rfl
theorem q662 : (Jvm.Cond.methodLink "FigureKnee$Reader" (36 : Nat) ({ cls := "FigureKnee$Reader", name := "isOver", desc := "()Z" } : Jvm.MethodName)) ∈ lw_all := lw_g (lw_at lw_m3 61 rfl) rfl
theorem q663 : (Jvm.Cond.privateMethod ({ cls := "FigureKnee$Reader", name := "isOver", desc := "()Z" } : Jvm.MethodName)) ∈ lw_tbl := lw_at lw_m3 62 rfl
theorem q664 : (Jvm.Cond.instanceMethod ({ cls := "FigureKnee$Reader", name := "isOver", desc := "()Z" } : Jvm.MethodName)) ∈ lw_all := lw_g (lw_at lw_m3 63 rfl) rfl
theorem q665 : (Jvm.Cond.code ({ cls := "FigureKnee$Reader", name := "isOver", desc := "()Z" } : Jvm.MethodName) prog_10_method_2_code (1 : Nat) (Option.some Jvm.ClassFile.FieldType.boolean)) ∈ lw_all := lw_g (lw_at lw_m3 64 rfl) rfl
theorem q666 : (Jvm.Cond.methodLink "FigureKnee$Reader" (49 : Nat) ({ cls := "FigureKnee$Reader", name := "on", desc := "()V" } : Jvm.MethodName)) ∈ lw_all := lw_g (lw_at lw_m3 65 rfl) rfl
theorem q667 : (Jvm.Cond.privateMethod ({ cls := "FigureKnee$Reader", name := "on", desc := "()V" } : Jvm.MethodName)) ∈ lw_tbl := lw_at lw_m3 66 rfl
theorem q668 : (Jvm.Cond.instanceMethod ({ cls := "FigureKnee$Reader", name := "on", desc := "()V" } : Jvm.MethodName)) ∈ lw_all := lw_g (lw_at lw_m3 67 rfl) rfl
theorem q669 : (Jvm.Cond.code ({ cls := "FigureKnee$Reader", name := "on", desc := "()V" } : Jvm.MethodName) prog_10_method_4_code (1 : Nat) (Option.none : Option Jvm.ClassFile.FieldType)) ∈ lw_all := lw_g (lw_at lw_m3 68 rfl) rfl
theorem q670 : (Jvm.Cond.stringRef "FigureKnee$Reader" (146 : Nat) "words") ∈ lw_tbl := lw_at lw_m3 69 rfl
theorem q671 : (Jvm.Cond.methodLink "FigureKnee$Reader" (147 : Nat) ({ cls := "FigureKnee$Reader", name := "part", desc := "(Ljava/lang/String;II)I" } : Jvm.MethodName)) ∈ lw_all := lw_g (lw_at lw_m3 70 rfl) rfl
theorem q672 : (Jvm.Cond.privateMethod ({ cls := "FigureKnee$Reader", name := "part", desc := "(Ljava/lang/String;II)I" } : Jvm.MethodName)) ∈ lw_tbl := lw_at lw_m3 71 rfl
theorem q673 : (Jvm.Cond.instanceMethod ({ cls := "FigureKnee$Reader", name := "part", desc := "(Ljava/lang/String;II)I" } : Jvm.MethodName)) ∈ lw_all := lw_g (lw_at lw_m3 72 rfl) rfl
theorem q674 : (Jvm.Cond.code ({ cls := "FigureKnee$Reader", name := "part", desc := "(Ljava/lang/String;II)I" } : Jvm.MethodName) prog_10_method_9_code (4 : Nat) (Option.some Jvm.ClassFile.FieldType.int)) ∈ lw_all := lw_g (lw_at lw_m3 73 rfl) rfl
theorem q675 : (Jvm.Cond.methodLink "FigureKnee$Reader" (71 : Nat) ({ cls := "FigureKnee$Reader", name := "needs", desc := "(Ljava/lang/String;)V" } : Jvm.MethodName)) ∈ lw_all := lw_g (lw_at lw_m3 74 rfl) rfl
theorem q676 : (Jvm.Cond.privateMethod ({ cls := "FigureKnee$Reader", name := "needs", desc := "(Ljava/lang/String;)V" } : Jvm.MethodName)) ∈ lw_tbl := lw_at lw_m3 75 rfl
theorem q677 : (Jvm.Cond.instanceMethod ({ cls := "FigureKnee$Reader", name := "needs", desc := "(Ljava/lang/String;)V" } : Jvm.MethodName)) ∈ lw_all := lw_g (lw_at lw_m3 76 rfl) rfl
theorem q678 : (Jvm.Cond.code ({ cls := "FigureKnee$Reader", name := "needs", desc := "(Ljava/lang/String;)V" } : Jvm.MethodName) prog_10_method_6_code (2 : Nat) (Option.none : Option Jvm.ClassFile.FieldType)) ∈ lw_all := lw_g (lw_at lw_m3 77 rfl) rfl
theorem q679 : (Jvm.Cond.methodLink "FigureKnee$Reader" (52 : Nat) ({ cls := "FigureKnee$Token", name := "is", desc := "(Ljava/lang/String;)Z" } : Jvm.MethodName)) ∈ lw_all := lw_g (lw_at lw_m3 78 rfl) rfl
theorem q684 : (Jvm.Cond.methodLink "FigureKnee$Reader" (75 : Nat) ({ cls := "FigureKnee$Reader", name := "whole", desc := "(II)I" } : Jvm.MethodName)) ∈ lw_all := lw_g (lw_at lw_m3 83 rfl) rfl
theorem q685 : (Jvm.Cond.privateMethod ({ cls := "FigureKnee$Reader", name := "whole", desc := "(II)I" } : Jvm.MethodName)) ∈ lw_tbl := lw_at lw_m3 84 rfl
theorem q686 : (Jvm.Cond.instanceMethod ({ cls := "FigureKnee$Reader", name := "whole", desc := "(II)I" } : Jvm.MethodName)) ∈ lw_all := lw_g (lw_at lw_m3 85 rfl) rfl
theorem q687 : (Jvm.Cond.code ({ cls := "FigureKnee$Reader", name := "whole", desc := "(II)I" } : Jvm.MethodName) prog_10_method_8_code (4 : Nat) (Option.some Jvm.ClassFile.FieldType.int)) ∈ lw_all := lw_g (lw_at lw_m3 86 rfl) rfl
theorem q688 : (Jvm.Cond.methodLink "FigureKnee$Reader" (67 : Nat) ({ cls := "FigureKnee$Reader", name := "wholeAt", desc := "(II)I" } : Jvm.MethodName)) ∈ lw_all := lw_g (lw_at lw_m3 87 rfl) rfl
theorem q689 : (Jvm.Cond.privateMethod ({ cls := "FigureKnee$Reader", name := "wholeAt", desc := "(II)I" } : Jvm.MethodName)) ∈ lw_tbl := lw_at lw_m3 88 rfl
theorem q690 : (Jvm.Cond.instanceMethod ({ cls := "FigureKnee$Reader", name := "wholeAt", desc := "(II)I" } : Jvm.MethodName)) ∈ lw_all := lw_g (lw_at lw_m3 89 rfl) rfl
theorem q691 : (Jvm.Cond.code ({ cls := "FigureKnee$Reader", name := "wholeAt", desc := "(II)I" } : Jvm.MethodName) prog_10_method_7_code (3 : Nat) (Option.some Jvm.ClassFile.FieldType.int)) ∈ lw_all := lw_g (lw_at lw_m3 90 rfl) rfl
theorem q692 : (Jvm.Cond.methodLinkNest "FigureKnee$Reader" (63 : Nat) ({ cls := "FigureKnee", name := "in", desc := "(III)Z" } : Jvm.MethodName) "FigureKnee") ∈ lw_tbl := lw_at lw_m3 91 rfl
theorem q693 : (Jvm.Cond.stringRef "FigureKnee$Reader" (151 : Nat) "dumb") ∈ lw_tbl := lw_at lw_m3 92 rfl
theorem q694 : (Jvm.Cond.methodLink "FigureKnee$Reader" (136 : Nat) ({ cls := "FigureKnee$Reader", name := "pair", desc := "()V" } : Jvm.MethodName)) ∈ lw_all := lw_g (lw_at lw_m3 93 rfl) rfl
theorem q695 : (Jvm.Cond.privateMethod ({ cls := "FigureKnee$Reader", name := "pair", desc := "()V" } : Jvm.MethodName)) ∈ lw_tbl := lw_at lw_m3 94 rfl
theorem q696 : (Jvm.Cond.instanceMethod ({ cls := "FigureKnee$Reader", name := "pair", desc := "()V" } : Jvm.MethodName)) ∈ lw_all := lw_g (lw_at lw_m3 95 rfl) rfl
theorem q697 : (Jvm.Cond.code ({ cls := "FigureKnee$Reader", name := "pair", desc := "()V" } : Jvm.MethodName) prog_10_method_17_code (2 : Nat) (Option.none : Option Jvm.ClassFile.FieldType)) ∈ lw_all := lw_g (lw_at lw_m3 96 rfl) rfl
theorem q698 : (Jvm.Cond.methodLink "FigureKnee$Reader" (176 : Nat) ({ cls := "java/util/ArrayList", name := "size", desc := "()I" } : Jvm.MethodName)) ∈ lw_all := lw_g (lw_at lw_m3 97 rfl) rfl
theorem q702 : (Jvm.Cond.methodLink "FigureKnee$Reader" (179 : Nat) ({ cls := "FigureKnee$Reader", name := "begins", desc := "(II)V" } : Jvm.MethodName)) ∈ lw_all := lw_g (lw_at lw_m3 101 rfl) rfl
theorem q703 : (Jvm.Cond.privateMethod ({ cls := "FigureKnee$Reader", name := "begins", desc := "(II)V" } : Jvm.MethodName)) ∈ lw_tbl := lw_at lw_m3 102 rfl
theorem q704 : (Jvm.Cond.instanceMethod ({ cls := "FigureKnee$Reader", name := "begins", desc := "(II)V" } : Jvm.MethodName)) ∈ lw_all := lw_g (lw_at lw_m3 103 rfl) rfl
theorem q705 : (Jvm.Cond.code ({ cls := "FigureKnee$Reader", name := "begins", desc := "(II)V" } : Jvm.MethodName) prog_10_method_14_code (3 : Nat) (Option.none : Option Jvm.ClassFile.FieldType)) ∈ lw_all := lw_g (lw_at lw_m3 104 rfl) rfl
theorem q706 : (Jvm.Cond.methodLink "FigureKnee$Reader" (78 : Nat) ({ cls := "FigureKnee$Token", name := "isName", desc := "()Z" } : Jvm.MethodName)) ∈ lw_all := lw_g (lw_at lw_m3 105 rfl) rfl
theorem q717 : (Jvm.Cond.methodLink "FigureKnee$Reader" (85 : Nat) ({ cls := "FigureKnee$Pier", name := "find", desc := "(Ljava/lang/String;)I" } : Jvm.MethodName)) ∈ lw_all := lw_g (lw_at lw_m3 116 rfl) rfl
theorem q736 : (Jvm.Cond.classLink "FigureKnee$Reader" (183 : Nat) "FigureKnee$Pair") ∈ lw_all := lw_g (lw_at lw_m3 135 rfl) rfl
theorem q738 : (Jvm.Cond.methodLink "FigureKnee$Reader" (185 : Nat) ({ cls := "FigureKnee$Pair", name := "<init>", desc := "(Ljava/lang/String;)V" } : Jvm.MethodName)) ∈ lw_all := lw_g (lw_at lw_m3 137 rfl) rfl
theorem q744 : (Jvm.Cond.fieldLink "FigureKnee$Reader" (191 : Nat) "FigureKnee$Pair" "law" "LFigureKnee$Law;") ∈ lw_all := lw_g (lw_at lw_m3 143 rfl) rfl
theorem q747 : (Jvm.Cond.fieldLink "FigureKnee$Reader" (196 : Nat) "FigureKnee$Pair" "said" "I") ∈ lw_all := lw_g (lw_at lw_m3 146 rfl) rfl
theorem q750 : (Jvm.Cond.fieldLink "FigureKnee$Reader" (201 : Nat) "FigureKnee$Pair" "step" "I") ∈ lw_all := lw_g (lw_at lw_m3 149 rfl) rfl
theorem q752 : (Jvm.Cond.fieldLink "FigureKnee$Reader" (210 : Nat) "FigureKnee$Pair" "every" "I") ∈ lw_all := lw_g (lw_at lw_m3 151 rfl) rfl
theorem q754 : (Jvm.Cond.fieldLink "FigureKnee$Reader" (238 : Nat) "FigureKnee$Pair" "other" "I") ∈ lw_all := lw_g (lw_at lw_m3 153 rfl) rfl
theorem q756 : (Jvm.Cond.fieldLink "FigureKnee$Reader" (235 : Nat) "FigureKnee$Pair" "unsure" "Z") ∈ lw_all := lw_g (lw_at lw_m3 155 rfl) rfl
theorem q772 : (Jvm.Cond.methodLink "FigureKnee$Reader" (187 : Nat) ({ cls := "FigureKnee$Reader", name := "law", desc := "()LFigureKnee$Law;" } : Jvm.MethodName)) ∈ lw_all := lw_g (lw_at lw_m3 171 rfl) rfl
theorem q773 : (Jvm.Cond.privateMethod ({ cls := "FigureKnee$Reader", name := "law", desc := "()LFigureKnee$Law;" } : Jvm.MethodName)) ∈ lw_tbl := lw_at lw_m3 172 rfl
theorem q774 : (Jvm.Cond.instanceMethod ({ cls := "FigureKnee$Reader", name := "law", desc := "()LFigureKnee$Law;" } : Jvm.MethodName)) ∈ lw_all := lw_g (lw_at lw_m3 173 rfl) rfl
theorem q775 : (Jvm.Cond.code ({ cls := "FigureKnee$Reader", name := "law", desc := "()LFigureKnee$Law;" } : Jvm.MethodName) prog_10_method_16_code (3 : Nat) (Option.some (Jvm.ClassFile.FieldType.object "FigureKnee$Law"))) ∈ lw_all := lw_g (lw_at lw_m3 174 rfl) rfl
theorem q776 : (Jvm.Cond.stringRef "FigureKnee$Reader" (155 : Nat) "creeping") ∈ lw_tbl := lw_at lw_m3 175 rfl
theorem q777 : (Jvm.Cond.stringRef "FigureKnee$Reader" (157 : Nat) "leaping") ∈ lw_tbl := lw_at lw_m3 176 rfl
theorem q778 : (Jvm.Cond.stringRef "FigureKnee$Reader" (159 : Nat) "fading") ∈ lw_tbl := lw_at lw_m3 177 rfl
theorem q779 : (Jvm.Cond.stringRef "FigureKnee$Reader" (161 : Nat) "swinging") ∈ lw_tbl := lw_at lw_m3 178 rfl
theorem q780 : (Jvm.Cond.classLink "FigureKnee$Reader" (163 : Nat) "FigureKnee$Creeping") ∈ lw_all := lw_g (lw_at lw_m3 179 rfl) rfl
theorem q782 : (Jvm.Cond.methodLink "FigureKnee$Reader" (165 : Nat) ({ cls := "FigureKnee$Creeping", name := "<init>", desc := "(I)V" } : Jvm.MethodName)) ∈ lw_all := lw_g (lw_at lw_m3 181 rfl) rfl
theorem q794 : (Jvm.Cond.classLink "FigureKnee$Reader" (167 : Nat) "FigureKnee$Leaping") ∈ lw_all := lw_g (lw_at lw_m3 193 rfl) rfl
theorem q796 : (Jvm.Cond.methodLink "FigureKnee$Reader" (169 : Nat) ({ cls := "FigureKnee$Leaping", name := "<init>", desc := "()V" } : Jvm.MethodName)) ∈ lw_all := lw_g (lw_at lw_m3 195 rfl) rfl
theorem q802 : (Jvm.Cond.classLink "FigureKnee$Reader" (170 : Nat) "FigureKnee$Fading") ∈ lw_all := lw_g (lw_at lw_m3 201 rfl) rfl
theorem q804 : (Jvm.Cond.methodLink "FigureKnee$Reader" (172 : Nat) ({ cls := "FigureKnee$Fading", name := "<init>", desc := "()V" } : Jvm.MethodName)) ∈ lw_all := lw_g (lw_at lw_m3 203 rfl) rfl
theorem q810 : (Jvm.Cond.classLink "FigureKnee$Reader" (173 : Nat) "FigureKnee$Swinging") ∈ lw_all := lw_g (lw_at lw_m3 209 rfl) rfl
theorem q812 : (Jvm.Cond.methodLink "FigureKnee$Reader" (175 : Nat) ({ cls := "FigureKnee$Swinging", name := "<init>", desc := "()V" } : Jvm.MethodName)) ∈ lw_all := lw_g (lw_at lw_m3 211 rfl) rfl
theorem q818 : (Jvm.Cond.stringRef "FigureKnee$Reader" (194 : Nat) "figure") ∈ lw_tbl := lw_at lw_m3 217 rfl
theorem q819 : (Jvm.Cond.stringRef "FigureKnee$Reader" (199 : Nat) "step") ∈ lw_tbl := lw_at lw_m3 218 rfl
theorem q820 : (Jvm.Cond.methodLink "FigureKnee$Reader" (203 : Nat) ({ cls := "java/util/ArrayList", name := "add", desc := "(Ljava/lang/Object;)Z" } : Jvm.MethodName)) ∈ lw_all := lw_g (lw_at lw_m3 219 rfl) rfl
theorem q851 : (Jvm.Cond.selects "FigureKnee$Reader" ({ cls := "java/lang/Object", name := "getClass", desc := "()Ljava/lang/Class;" } : Jvm.MethodName) ({ cls := "java/lang/Object", name := "getClass", desc := "()Ljava/lang/Class;" } : Jvm.MethodName)) ∈ lw_all := lw_g (lw_at lw_m4 10 rfl) rfl
theorem q871 : (Jvm.Cond.methodLink "FigureKnee$Reader" (138 : Nat) ({ cls := "FigureKnee$Reader", name := "contract", desc := "()V" } : Jvm.MethodName)) ∈ lw_all := lw_g (lw_at lw_m4 30 rfl) rfl
theorem q872 : (Jvm.Cond.privateMethod ({ cls := "FigureKnee$Reader", name := "contract", desc := "()V" } : Jvm.MethodName)) ∈ lw_tbl := lw_at lw_m4 31 rfl
theorem q873 : (Jvm.Cond.instanceMethod ({ cls := "FigureKnee$Reader", name := "contract", desc := "()V" } : Jvm.MethodName)) ∈ lw_all := lw_g (lw_at lw_m4 32 rfl) rfl
theorem q874 : (Jvm.Cond.code ({ cls := "FigureKnee$Reader", name := "contract", desc := "()V" } : Jvm.MethodName) prog_10_method_18_code (3 : Nat) (Option.none : Option Jvm.ClassFile.FieldType)) ∈ lw_all := lw_g (lw_at lw_m4 33 rfl) rfl
theorem q875 : (Jvm.Cond.methodLink "FigureKnee$Reader" (89 : Nat) ({ cls := "FigureKnee$Reader", name := "known", desc := "()I" } : Jvm.MethodName)) ∈ lw_all := lw_g (lw_at lw_m4 34 rfl) rfl
theorem q876 : (Jvm.Cond.privateMethod ({ cls := "FigureKnee$Reader", name := "known", desc := "()I" } : Jvm.MethodName)) ∈ lw_tbl := lw_at lw_m4 35 rfl
theorem q877 : (Jvm.Cond.instanceMethod ({ cls := "FigureKnee$Reader", name := "known", desc := "()I" } : Jvm.MethodName)) ∈ lw_all := lw_g (lw_at lw_m4 36 rfl) rfl
theorem q878 : (Jvm.Cond.code ({ cls := "FigureKnee$Reader", name := "known", desc := "()I" } : Jvm.MethodName) prog_10_method_10_code (2 : Nat) (Option.some Jvm.ClassFile.FieldType.int)) ∈ lw_all := lw_g (lw_at lw_m4 37 rfl) rfl
theorem q879 : (Jvm.Cond.methodLink "FigureKnee$Reader" (206 : Nat) ({ cls := "java/util/ArrayList", name := "get", desc := "(I)Ljava/lang/Object;" } : Jvm.MethodName)) ∈ lw_all := lw_g (lw_at lw_m4 38 rfl) rfl
theorem q880 : (Jvm.Cond.stringRef "FigureKnee$Reader" (213 : Nat) "every") ∈ lw_tbl := lw_at lw_m4 39 rfl
theorem q881 : (Jvm.Cond.methodLink "FigureKnee$Reader" (140 : Nat) ({ cls := "FigureKnee$Reader", name := "debt", desc := "()V" } : Jvm.MethodName)) ∈ lw_all := lw_g (lw_at lw_m4 40 rfl) rfl
theorem q882 : (Jvm.Cond.privateMethod ({ cls := "FigureKnee$Reader", name := "debt", desc := "()V" } : Jvm.MethodName)) ∈ lw_tbl := lw_at lw_m4 41 rfl
theorem q883 : (Jvm.Cond.instanceMethod ({ cls := "FigureKnee$Reader", name := "debt", desc := "()V" } : Jvm.MethodName)) ∈ lw_all := lw_g (lw_at lw_m4 42 rfl) rfl
theorem q884 : (Jvm.Cond.code ({ cls := "FigureKnee$Reader", name := "debt", desc := "()V" } : Jvm.MethodName) prog_10_method_19_code (4 : Nat) (Option.none : Option Jvm.ClassFile.FieldType)) ∈ lw_all := lw_g (lw_at lw_m4 43 rfl) rfl
theorem q885 : (Jvm.Cond.methodLink "FigureKnee$Reader" (220 : Nat) ({ cls := "FigureKnee$Reader", name := "told", desc := "()I" } : Jvm.MethodName)) ∈ lw_all := lw_g (lw_at lw_m4 44 rfl) rfl
theorem q886 : (Jvm.Cond.privateMethod ({ cls := "FigureKnee$Reader", name := "told", desc := "()I" } : Jvm.MethodName)) ∈ lw_tbl := lw_at lw_m4 45 rfl
theorem q887 : (Jvm.Cond.instanceMethod ({ cls := "FigureKnee$Reader", name := "told", desc := "()I" } : Jvm.MethodName)) ∈ lw_all := lw_g (lw_at lw_m4 46 rfl) rfl
theorem q888 : (Jvm.Cond.code ({ cls := "FigureKnee$Reader", name := "told", desc := "()I" } : Jvm.MethodName) prog_10_method_11_code (2 : Nat) (Option.some Jvm.ClassFile.FieldType.int)) ∈ lw_all := lw_g (lw_at lw_m4 47 rfl) rfl
theorem q889 : (Jvm.Cond.methodLink "FigureKnee$Reader" (223 : Nat) ({ cls := "FigureKnee$Pier", name := "isOwed", desc := "(II)Z" } : Jvm.MethodName)) ∈ lw_all := lw_g (lw_at lw_m4 48 rfl) rfl
theorem q894 : (Jvm.Cond.classLink "FigureKnee$Reader" (227 : Nat) "FigureKnee$Debt") ∈ lw_all := lw_g (lw_at lw_m4 53 rfl) rfl
theorem q896 : (Jvm.Cond.methodLink "FigureKnee$Reader" (229 : Nat) ({ cls := "FigureKnee$Debt", name := "<init>", desc := "(III)V" } : Jvm.MethodName)) ∈ lw_all := lw_g (lw_at lw_m4 55 rfl) rfl
theorem q915 : (Jvm.Cond.methodLink "FigureKnee$Reader" (142 : Nat) ({ cls := "FigureKnee$Reader", name := "unsure", desc := "()V" } : Jvm.MethodName)) ∈ lw_all := lw_g (lw_at lw_m4 74 rfl) rfl
theorem q916 : (Jvm.Cond.privateMethod ({ cls := "FigureKnee$Reader", name := "unsure", desc := "()V" } : Jvm.MethodName)) ∈ lw_tbl := lw_at lw_m4 75 rfl
theorem q917 : (Jvm.Cond.instanceMethod ({ cls := "FigureKnee$Reader", name := "unsure", desc := "()V" } : Jvm.MethodName)) ∈ lw_all := lw_g (lw_at lw_m4 76 rfl) rfl
theorem q918 : (Jvm.Cond.code ({ cls := "FigureKnee$Reader", name := "unsure", desc := "()V" } : Jvm.MethodName) prog_10_method_20_code (3 : Nat) (Option.none : Option Jvm.ClassFile.FieldType)) ∈ lw_all := lw_g (lw_at lw_m4 77 rfl) rfl
theorem q919 : (Jvm.Cond.methodLink "FigureKnee$Reader" (144 : Nat) ({ cls := "FigureKnee$Reader", name := "heard", desc := "()V" } : Jvm.MethodName)) ∈ lw_all := lw_g (lw_at lw_m4 78 rfl) rfl
theorem q920 : (Jvm.Cond.privateMethod ({ cls := "FigureKnee$Reader", name := "heard", desc := "()V" } : Jvm.MethodName)) ∈ lw_tbl := lw_at lw_m4 79 rfl
theorem q921 : (Jvm.Cond.instanceMethod ({ cls := "FigureKnee$Reader", name := "heard", desc := "()V" } : Jvm.MethodName)) ∈ lw_all := lw_g (lw_at lw_m4 80 rfl) rfl
theorem q922 : (Jvm.Cond.code ({ cls := "FigureKnee$Reader", name := "heard", desc := "()V" } : Jvm.MethodName) prog_10_method_21_code (4 : Nat) (Option.none : Option Jvm.ClassFile.FieldType)) ∈ lw_all := lw_g (lw_at lw_m4 81 rfl) rfl
theorem q923 : (Jvm.Cond.stringRef "FigureKnee$Reader" (246 : Nat) "season") ∈ lw_tbl := lw_at lw_m4 82 rfl
theorem q924 : (Jvm.Cond.methodLink "FigureKnee$Reader" (248 : Nat) ({ cls := "FigureKnee$Pier", name := "isHeard", desc := "(II)Z" } : Jvm.MethodName)) ∈ lw_all := lw_g (lw_at lw_m4 83 rfl) rfl
theorem q929 : (Jvm.Cond.classLink "FigureKnee$Reader" (251 : Nat) "FigureKnee$Heard") ∈ lw_all := lw_g (lw_at lw_m4 88 rfl) rfl
theorem q931 : (Jvm.Cond.methodLink "FigureKnee$Reader" (253 : Nat) ({ cls := "FigureKnee$Heard", name := "<init>", desc := "(III)V" } : Jvm.MethodName)) ∈ lw_all := lw_g (lw_at lw_m4 90 rfl) rfl
theorem q950 : (Jvm.Cond.methodLink "FigureKnee$Reader" (96 : Nat) ({ cls := "FigureKnee$Reader", name := "eatsSemicolon", desc := "()Z" } : Jvm.MethodName)) ∈ lw_all := lw_g (lw_at lw_m4 109 rfl) rfl
theorem q951 : (Jvm.Cond.privateMethod ({ cls := "FigureKnee$Reader", name := "eatsSemicolon", desc := "()Z" } : Jvm.MethodName)) ∈ lw_tbl := lw_at lw_m4 110 rfl
theorem q952 : (Jvm.Cond.instanceMethod ({ cls := "FigureKnee$Reader", name := "eatsSemicolon", desc := "()Z" } : Jvm.MethodName)) ∈ lw_all := lw_g (lw_at lw_m4 111 rfl) rfl
theorem q953 : (Jvm.Cond.code ({ cls := "FigureKnee$Reader", name := "eatsSemicolon", desc := "()Z" } : Jvm.MethodName) prog_10_method_5_code (1 : Nat) (Option.some Jvm.ClassFile.FieldType.boolean)) ∈ lw_all := lw_g (lw_at lw_m4 112 rfl) rfl
theorem q954 : (Jvm.Cond.methodLink "FigureKnee$Reader" (106 : Nat) ({ cls := "java/util/ArrayList", name := "isEmpty", desc := "()Z" } : Jvm.MethodName)) ∈ lw_all := lw_g (lw_at lw_m4 113 rfl) rfl
theorem q2200 : (Jvm.Cond.castable "FigureKnee$Reader" "java/lang/Object") ∈ lw_tbl := lw_at lw_m9 159 rfl
theorem in_X3 : ∀ w ∈ wsX30, w ∈ lw_all := lw_in wsX30 [567, 569, 571, 573, 575] (by decide +kernel) (by decide +kernel)

/-! FigureKnee$Tokens -/
set_option maxRecDepth 100000
def RX4 : String := "FigureKnee$Tokens"
def TX4 : u_T := fun k => match k with
  | 0 => ("FigureKnee$Tokens", "text", "[B", true)
  | 1 => ("FigureKnee$Tokens", "size", "I", true)
  | _ => ("FigureKnee$Tokens", "at", "I", false)
def tyX4 : Nat → FieldType := fun k => match k with
  | 0 => .array .byte
  | 1 => .int
  | _ => .int
abbrev wsX40 : List Cond := u_ws RX4 TX4 3
theorem nmX4 : ∀ a, a < 3 → ∀ b, b < 3 → a ≠ b → (TX4 a).2.1 ≠ (TX4 b).2.1 := by decide +kernel
theorem tyX4_ok : ∀ k, k < 3 → parseFieldDescriptor (TX4 k).2.2.1 = some (tyX4 k) := by decide +kernel
abbrev cX4_init : ByteArray := prog_14_method_1_code
def yX4_init : MethodName := ⟨RX4, "<init>", "([BI)V"⟩
def dkwX4_init_0 : List UInt8 := [42, 183, 0, 3, 42, 43, 181, 0, 9, 42, 28, 181, 0, 15, 177]
abbrev dktX4_init_0 : List UInt8 := dkwX4_init_0 ++ []
theorem dksX4_init_0 : cX4_init.data.toList.drop 0 = dktX4_init_0 := by decide +kernel
theorem dX4_init_0 : decode cX4_init 0 = .ok (.aload_n 0, 1) := dk_42 (dk_at dksX4_init_0 0 rfl rfl)
theorem dX4_init_1 : decode cX4_init 1 = .ok (.invokespecial 3, 3) := dk_183 0 3 (dk_at dksX4_init_0 1 rfl rfl)
theorem dX4_init_4 : decode cX4_init 4 = .ok (.aload_n 0, 1) := dk_42 (dk_at dksX4_init_0 4 rfl rfl)
theorem dX4_init_5 : decode cX4_init 5 = .ok (.aload_n 1, 1) := dk_43 (dk_at dksX4_init_0 5 rfl rfl)
theorem dX4_init_6 : decode cX4_init 6 = .ok (.putfield 9, 3) := dk_181 0 9 (dk_at dksX4_init_0 6 rfl rfl)
theorem dX4_init_9 : decode cX4_init 9 = .ok (.aload_n 0, 1) := dk_42 (dk_at dksX4_init_0 9 rfl rfl)
theorem dX4_init_10 : decode cX4_init 10 = .ok (.iload_n 2, 1) := dk_28 (dk_at dksX4_init_0 10 rfl rfl)
theorem dX4_init_11 : decode cX4_init 11 = .ok (.putfield 15, 3) := dk_181 0 15 (dk_at dksX4_init_0 11 rfl rfl)
theorem dX4_init_14 : decode cX4_init 14 = .ok (.return_, 1) := dk_177 (dk_at dksX4_init_0 14 rfl rfl)
abbrev cX4_next : ByteArray := prog_14_method_3_code
def yX4_next : MethodName := ⟨RX4, "next", "()LFigureKnee$Token;"⟩
def dkwX4_next_12 : List UInt8 := [28, 18, 28, 183, 0, 30, 176]
abbrev dktX4_next_12 : List UInt8 := dkwX4_next_12 ++ []
def dkwX4_next_11 : List UInt8 := [180, 0, 19, 4, 96, 181, 0, 19, 187, 0, 26, 89, 28, 16, 59, 160, 0, 7, 7, 167, 0, 4, 3, 27]
abbrev dktX4_next_11 : List UInt8 := dkwX4_next_11 ++ dktX4_next_12
def dkwX4_next_10 : List UInt8 := [164, 0, 7, 3, 167, 0, 4, 6, 27, 28, 18, 28, 183, 0, 30, 176, 42, 182, 0, 22, 61, 42, 89]
abbrev dktX4_next_10 : List UInt8 := dkwX4_next_10 ++ dktX4_next_11
def dkwX4_next_9 : List UInt8 := [180, 0, 19, 4, 96, 181, 0, 19, 167, 255, 209, 187, 0, 26, 89, 42, 180, 0, 19, 27, 100, 6]
abbrev dktX4_next_9 : List UInt8 := dkwX4_next_9 ++ dktX4_next_10
def dkwX4_next_8 : List UInt8 := [180, 0, 19, 27, 100, 6, 162, 0, 16, 16, 10, 28, 104, 42, 182, 0, 22, 96, 16, 48, 100, 61, 42, 89]
abbrev dktX4_next_8 : List UInt8 := dkwX4_next_8 ++ dktX4_next_9
def dkwX4_next_7 : List UInt8 := [184, 0, 33, 153, 0, 82, 3, 61, 42, 182, 0, 22, 16, 48, 16, 57, 184, 0, 33, 153, 0, 39, 42]
abbrev dktX4_next_7 : List UInt8 := dkwX4_next_7 ++ dktX4_next_8
def dkwX4_next_6 : List UInt8 := [167, 0, 4, 5, 27, 3, 44, 182, 0, 44, 183, 0, 30, 176, 42, 182, 0, 22, 16, 48, 16, 57]
abbrev dktX4_next_6 : List UInt8 := dkwX4_next_6 ++ dktX4_next_7
def dkwX4_next_5 : List UInt8 := [181, 0, 19, 167, 255, 211, 187, 0, 26, 89, 42, 180, 0, 19, 27, 100, 16, 8, 164, 0, 7, 3]
abbrev dktX4_next_5 : List UInt8 := dkwX4_next_5 ++ dktX4_next_6
def dkwX4_next_4 : List UInt8 := [16, 8, 162, 0, 13, 44, 42, 182, 0, 22, 146, 182, 0, 40, 87, 42, 89, 180, 0, 19, 4, 96]
abbrev dktX4_next_4 : List UInt8 := dkwX4_next_4 ++ dktX4_next_5
def dkwX4_next_3 : List UInt8 := [183, 0, 39, 77, 42, 182, 0, 22, 16, 97, 16, 122, 184, 0, 33, 153, 0, 37, 42, 180, 0, 19, 27, 100]
abbrev dktX4_next_3 : List UInt8 := dkwX4_next_3 ++ dktX4_next_4
def dkwX4_next_2 : List UInt8 := [183, 0, 30, 176, 42, 182, 0, 22, 16, 97, 16, 122, 184, 0, 33, 153, 0, 89, 187, 0, 37, 89]
abbrev dktX4_next_2 : List UInt8 := dkwX4_next_2 ++ dktX4_next_3
def dkwX4_next_1 : List UInt8 := [180, 0, 19, 60, 42, 180, 0, 19, 42, 180, 0, 15, 160, 0, 16, 187, 0, 26, 89, 4, 27, 3, 18, 28]
abbrev dktX4_next_1 : List UInt8 := dkwX4_next_1 ++ dktX4_next_2
def dkwX4_next_0 : List UInt8 := [42, 182, 0, 22, 16, 32, 160, 0, 16, 42, 89, 180, 0, 19, 4, 96, 181, 0, 19, 167, 255, 237, 42]
abbrev dktX4_next_0 : List UInt8 := dkwX4_next_0 ++ dktX4_next_1
theorem dksX4_next_0 : cX4_next.data.toList.drop 0 = dktX4_next_0 := by decide +kernel
theorem dksX4_next_1 : cX4_next.data.toList.drop 23 = dktX4_next_1 := dk_seg dksX4_next_0 23 rfl rfl
theorem dksX4_next_2 : cX4_next.data.toList.drop 47 = dktX4_next_2 := dk_seg dksX4_next_1 24 rfl rfl
theorem dksX4_next_3 : cX4_next.data.toList.drop 69 = dktX4_next_3 := dk_seg dksX4_next_2 22 rfl rfl
theorem dksX4_next_4 : cX4_next.data.toList.drop 93 = dktX4_next_4 := dk_seg dksX4_next_3 24 rfl rfl
theorem dksX4_next_5 : cX4_next.data.toList.drop 115 = dktX4_next_5 := dk_seg dksX4_next_4 22 rfl rfl
theorem dksX4_next_6 : cX4_next.data.toList.drop 137 = dktX4_next_6 := dk_seg dksX4_next_5 22 rfl rfl
theorem dksX4_next_7 : cX4_next.data.toList.drop 159 = dktX4_next_7 := dk_seg dksX4_next_6 22 rfl rfl
theorem dksX4_next_8 : cX4_next.data.toList.drop 182 = dktX4_next_8 := dk_seg dksX4_next_7 23 rfl rfl
theorem dksX4_next_9 : cX4_next.data.toList.drop 206 = dktX4_next_9 := dk_seg dksX4_next_8 24 rfl rfl
theorem dksX4_next_10 : cX4_next.data.toList.drop 228 = dktX4_next_10 := dk_seg dksX4_next_9 22 rfl rfl
theorem dksX4_next_11 : cX4_next.data.toList.drop 251 = dktX4_next_11 := dk_seg dksX4_next_10 23 rfl rfl
theorem dksX4_next_12 : cX4_next.data.toList.drop 275 = dktX4_next_12 := dk_seg dksX4_next_11 24 rfl rfl
theorem dX4_next_0 : decode cX4_next 0 = .ok (.aload_n 0, 1) := dk_42 (dk_at dksX4_next_0 0 rfl rfl)
theorem dX4_next_1 : decode cX4_next 1 = .ok (.invokevirtual 22, 3) := dk_182 0 22 (dk_at dksX4_next_0 1 rfl rfl)
theorem dX4_next_4 : decode cX4_next 4 = .ok (.bipush 32, 2) := dk_16 32 (dk_at dksX4_next_0 4 rfl rfl)
theorem dX4_next_6 : decode cX4_next 6 = .ok (.if_icmp .ne 16, 3) := dk_160 0 16 (dk_at dksX4_next_0 6 rfl rfl)
theorem dX4_next_9 : decode cX4_next 9 = .ok (.aload_n 0, 1) := dk_42 (dk_at dksX4_next_0 9 rfl rfl)
theorem dX4_next_10 : decode cX4_next 10 = .ok (.dup, 1) := dk_89 (dk_at dksX4_next_0 10 rfl rfl)
theorem dX4_next_11 : decode cX4_next 11 = .ok (.getfield 19, 3) := dk_180 0 19 (dk_at dksX4_next_0 11 rfl rfl)
theorem dX4_next_14 : decode cX4_next 14 = .ok (.iconst 1, 1) := dk_4 (dk_at dksX4_next_0 14 rfl rfl)
theorem dX4_next_15 : decode cX4_next 15 = .ok (.iadd, 1) := dk_96 (dk_at dksX4_next_0 15 rfl rfl)
theorem dX4_next_16 : decode cX4_next 16 = .ok (.putfield 19, 3) := dk_181 0 19 (dk_at dksX4_next_0 16 rfl rfl)
theorem dX4_next_19 : decode cX4_next 19 = .ok (.goto (-19), 3) := dk_167 255 237 (dk_at dksX4_next_0 19 rfl rfl)
theorem dX4_next_22 : decode cX4_next 22 = .ok (.aload_n 0, 1) := dk_42 (dk_at dksX4_next_0 22 rfl rfl)
theorem dX4_next_23 : decode cX4_next 23 = .ok (.getfield 19, 3) := dk_180 0 19 (dk_at dksX4_next_1 0 rfl rfl)
theorem dX4_next_26 : decode cX4_next 26 = .ok (.istore_n 1, 1) := dk_60 (dk_at dksX4_next_1 3 rfl rfl)
theorem dX4_next_27 : decode cX4_next 27 = .ok (.aload_n 0, 1) := dk_42 (dk_at dksX4_next_1 4 rfl rfl)
theorem dX4_next_28 : decode cX4_next 28 = .ok (.getfield 19, 3) := dk_180 0 19 (dk_at dksX4_next_1 5 rfl rfl)
theorem dX4_next_31 : decode cX4_next 31 = .ok (.aload_n 0, 1) := dk_42 (dk_at dksX4_next_1 8 rfl rfl)
theorem dX4_next_32 : decode cX4_next 32 = .ok (.getfield 15, 3) := dk_180 0 15 (dk_at dksX4_next_1 9 rfl rfl)
theorem dX4_next_35 : decode cX4_next 35 = .ok (.if_icmp .ne 16, 3) := dk_160 0 16 (dk_at dksX4_next_1 12 rfl rfl)
theorem dX4_next_38 : decode cX4_next 38 = .ok (.new 26, 3) := dk_187 0 26 (dk_at dksX4_next_1 15 rfl rfl)
theorem dX4_next_41 : decode cX4_next 41 = .ok (.dup, 1) := dk_89 (dk_at dksX4_next_1 18 rfl rfl)
theorem dX4_next_42 : decode cX4_next 42 = .ok (.iconst 1, 1) := dk_4 (dk_at dksX4_next_1 19 rfl rfl)
theorem dX4_next_43 : decode cX4_next 43 = .ok (.iload_n 1, 1) := dk_27 (dk_at dksX4_next_1 20 rfl rfl)
theorem dX4_next_44 : decode cX4_next 44 = .ok (.iconst 0, 1) := dk_3 (dk_at dksX4_next_1 21 rfl rfl)
theorem dX4_next_45 : decode cX4_next 45 = .ok (.ldc 28, 2) := dk_18 28 (dk_at dksX4_next_1 22 rfl rfl)
theorem dX4_next_47 : decode cX4_next 47 = .ok (.invokespecial 30, 3) := dk_183 0 30 (dk_at dksX4_next_2 0 rfl rfl)
theorem dX4_next_50 : decode cX4_next 50 = .ok (.areturn, 1) := dk_176 (dk_at dksX4_next_2 3 rfl rfl)
theorem dX4_next_51 : decode cX4_next 51 = .ok (.aload_n 0, 1) := dk_42 (dk_at dksX4_next_2 4 rfl rfl)
theorem dX4_next_52 : decode cX4_next 52 = .ok (.invokevirtual 22, 3) := dk_182 0 22 (dk_at dksX4_next_2 5 rfl rfl)
theorem dX4_next_55 : decode cX4_next 55 = .ok (.bipush 97, 2) := dk_16 97 (dk_at dksX4_next_2 8 rfl rfl)
theorem dX4_next_57 : decode cX4_next 57 = .ok (.bipush 122, 2) := dk_16 122 (dk_at dksX4_next_2 10 rfl rfl)
theorem dX4_next_59 : decode cX4_next 59 = .ok (.invokestatic 33, 3) := dk_184 0 33 (dk_at dksX4_next_2 12 rfl rfl)
theorem dX4_next_62 : decode cX4_next 62 = .ok (.ifCond .eq 89, 3) := dk_153 0 89 (dk_at dksX4_next_2 15 rfl rfl)
theorem dX4_next_65 : decode cX4_next 65 = .ok (.new 37, 3) := dk_187 0 37 (dk_at dksX4_next_2 18 rfl rfl)
theorem dX4_next_68 : decode cX4_next 68 = .ok (.dup, 1) := dk_89 (dk_at dksX4_next_2 21 rfl rfl)
theorem dX4_next_69 : decode cX4_next 69 = .ok (.invokespecial 39, 3) := dk_183 0 39 (dk_at dksX4_next_3 0 rfl rfl)
theorem dX4_next_72 : decode cX4_next 72 = .ok (.astore_n 2, 1) := dk_77 (dk_at dksX4_next_3 3 rfl rfl)
theorem dX4_next_73 : decode cX4_next 73 = .ok (.aload_n 0, 1) := dk_42 (dk_at dksX4_next_3 4 rfl rfl)
theorem dX4_next_74 : decode cX4_next 74 = .ok (.invokevirtual 22, 3) := dk_182 0 22 (dk_at dksX4_next_3 5 rfl rfl)
theorem dX4_next_77 : decode cX4_next 77 = .ok (.bipush 97, 2) := dk_16 97 (dk_at dksX4_next_3 8 rfl rfl)
theorem dX4_next_79 : decode cX4_next 79 = .ok (.bipush 122, 2) := dk_16 122 (dk_at dksX4_next_3 10 rfl rfl)
theorem dX4_next_81 : decode cX4_next 81 = .ok (.invokestatic 33, 3) := dk_184 0 33 (dk_at dksX4_next_3 12 rfl rfl)
theorem dX4_next_84 : decode cX4_next 84 = .ok (.ifCond .eq 37, 3) := dk_153 0 37 (dk_at dksX4_next_3 15 rfl rfl)
theorem dX4_next_87 : decode cX4_next 87 = .ok (.aload_n 0, 1) := dk_42 (dk_at dksX4_next_3 18 rfl rfl)
theorem dX4_next_88 : decode cX4_next 88 = .ok (.getfield 19, 3) := dk_180 0 19 (dk_at dksX4_next_3 19 rfl rfl)
theorem dX4_next_91 : decode cX4_next 91 = .ok (.iload_n 1, 1) := dk_27 (dk_at dksX4_next_3 22 rfl rfl)
theorem dX4_next_92 : decode cX4_next 92 = .ok (.isub, 1) := dk_100 (dk_at dksX4_next_3 23 rfl rfl)
theorem dX4_next_93 : decode cX4_next 93 = .ok (.bipush 8, 2) := dk_16 8 (dk_at dksX4_next_4 0 rfl rfl)
theorem dX4_next_95 : decode cX4_next 95 = .ok (.if_icmp .ge 13, 3) := dk_162 0 13 (dk_at dksX4_next_4 2 rfl rfl)
theorem dX4_next_98 : decode cX4_next 98 = .ok (.aload_n 2, 1) := dk_44 (dk_at dksX4_next_4 5 rfl rfl)
theorem dX4_next_99 : decode cX4_next 99 = .ok (.aload_n 0, 1) := dk_42 (dk_at dksX4_next_4 6 rfl rfl)
theorem dX4_next_100 : decode cX4_next 100 = .ok (.invokevirtual 22, 3) := dk_182 0 22 (dk_at dksX4_next_4 7 rfl rfl)
theorem dX4_next_103 : decode cX4_next 103 = .ok (.i2c, 1) := dk_146 (dk_at dksX4_next_4 10 rfl rfl)
theorem dX4_next_104 : decode cX4_next 104 = .ok (.invokevirtual 40, 3) := dk_182 0 40 (dk_at dksX4_next_4 11 rfl rfl)
theorem dX4_next_107 : decode cX4_next 107 = .ok (.pop, 1) := dk_87 (dk_at dksX4_next_4 14 rfl rfl)
theorem dX4_next_108 : decode cX4_next 108 = .ok (.aload_n 0, 1) := dk_42 (dk_at dksX4_next_4 15 rfl rfl)
theorem dX4_next_109 : decode cX4_next 109 = .ok (.dup, 1) := dk_89 (dk_at dksX4_next_4 16 rfl rfl)
theorem dX4_next_110 : decode cX4_next 110 = .ok (.getfield 19, 3) := dk_180 0 19 (dk_at dksX4_next_4 17 rfl rfl)
theorem dX4_next_113 : decode cX4_next 113 = .ok (.iconst 1, 1) := dk_4 (dk_at dksX4_next_4 20 rfl rfl)
theorem dX4_next_114 : decode cX4_next 114 = .ok (.iadd, 1) := dk_96 (dk_at dksX4_next_4 21 rfl rfl)
theorem dX4_next_115 : decode cX4_next 115 = .ok (.putfield 19, 3) := dk_181 0 19 (dk_at dksX4_next_5 0 rfl rfl)
theorem dX4_next_118 : decode cX4_next 118 = .ok (.goto (-45), 3) := dk_167 255 211 (dk_at dksX4_next_5 3 rfl rfl)
theorem dX4_next_121 : decode cX4_next 121 = .ok (.new 26, 3) := dk_187 0 26 (dk_at dksX4_next_5 6 rfl rfl)
theorem dX4_next_124 : decode cX4_next 124 = .ok (.dup, 1) := dk_89 (dk_at dksX4_next_5 9 rfl rfl)
theorem dX4_next_125 : decode cX4_next 125 = .ok (.aload_n 0, 1) := dk_42 (dk_at dksX4_next_5 10 rfl rfl)
theorem dX4_next_126 : decode cX4_next 126 = .ok (.getfield 19, 3) := dk_180 0 19 (dk_at dksX4_next_5 11 rfl rfl)
theorem dX4_next_129 : decode cX4_next 129 = .ok (.iload_n 1, 1) := dk_27 (dk_at dksX4_next_5 14 rfl rfl)
theorem dX4_next_130 : decode cX4_next 130 = .ok (.isub, 1) := dk_100 (dk_at dksX4_next_5 15 rfl rfl)
theorem dX4_next_131 : decode cX4_next 131 = .ok (.bipush 8, 2) := dk_16 8 (dk_at dksX4_next_5 16 rfl rfl)
theorem dX4_next_133 : decode cX4_next 133 = .ok (.if_icmp .le 7, 3) := dk_164 0 7 (dk_at dksX4_next_5 18 rfl rfl)
theorem dX4_next_136 : decode cX4_next 136 = .ok (.iconst 0, 1) := dk_3 (dk_at dksX4_next_5 21 rfl rfl)
theorem dX4_next_137 : decode cX4_next 137 = .ok (.goto 4, 3) := dk_167 0 4 (dk_at dksX4_next_6 0 rfl rfl)
theorem dX4_next_140 : decode cX4_next 140 = .ok (.iconst 2, 1) := dk_5 (dk_at dksX4_next_6 3 rfl rfl)
theorem dX4_next_141 : decode cX4_next 141 = .ok (.iload_n 1, 1) := dk_27 (dk_at dksX4_next_6 4 rfl rfl)
theorem dX4_next_142 : decode cX4_next 142 = .ok (.iconst 0, 1) := dk_3 (dk_at dksX4_next_6 5 rfl rfl)
theorem dX4_next_143 : decode cX4_next 143 = .ok (.aload_n 2, 1) := dk_44 (dk_at dksX4_next_6 6 rfl rfl)
theorem dX4_next_144 : decode cX4_next 144 = .ok (.invokevirtual 44, 3) := dk_182 0 44 (dk_at dksX4_next_6 7 rfl rfl)
theorem dX4_next_147 : decode cX4_next 147 = .ok (.invokespecial 30, 3) := dk_183 0 30 (dk_at dksX4_next_6 10 rfl rfl)
theorem dX4_next_150 : decode cX4_next 150 = .ok (.areturn, 1) := dk_176 (dk_at dksX4_next_6 13 rfl rfl)
theorem dX4_next_151 : decode cX4_next 151 = .ok (.aload_n 0, 1) := dk_42 (dk_at dksX4_next_6 14 rfl rfl)
theorem dX4_next_152 : decode cX4_next 152 = .ok (.invokevirtual 22, 3) := dk_182 0 22 (dk_at dksX4_next_6 15 rfl rfl)
theorem dX4_next_155 : decode cX4_next 155 = .ok (.bipush 48, 2) := dk_16 48 (dk_at dksX4_next_6 18 rfl rfl)
theorem dX4_next_157 : decode cX4_next 157 = .ok (.bipush 57, 2) := dk_16 57 (dk_at dksX4_next_6 20 rfl rfl)
theorem dX4_next_159 : decode cX4_next 159 = .ok (.invokestatic 33, 3) := dk_184 0 33 (dk_at dksX4_next_7 0 rfl rfl)
theorem dX4_next_162 : decode cX4_next 162 = .ok (.ifCond .eq 82, 3) := dk_153 0 82 (dk_at dksX4_next_7 3 rfl rfl)
theorem dX4_next_165 : decode cX4_next 165 = .ok (.iconst 0, 1) := dk_3 (dk_at dksX4_next_7 6 rfl rfl)
theorem dX4_next_166 : decode cX4_next 166 = .ok (.istore_n 2, 1) := dk_61 (dk_at dksX4_next_7 7 rfl rfl)
theorem dX4_next_167 : decode cX4_next 167 = .ok (.aload_n 0, 1) := dk_42 (dk_at dksX4_next_7 8 rfl rfl)
theorem dX4_next_168 : decode cX4_next 168 = .ok (.invokevirtual 22, 3) := dk_182 0 22 (dk_at dksX4_next_7 9 rfl rfl)
theorem dX4_next_171 : decode cX4_next 171 = .ok (.bipush 48, 2) := dk_16 48 (dk_at dksX4_next_7 12 rfl rfl)
theorem dX4_next_173 : decode cX4_next 173 = .ok (.bipush 57, 2) := dk_16 57 (dk_at dksX4_next_7 14 rfl rfl)
theorem dX4_next_175 : decode cX4_next 175 = .ok (.invokestatic 33, 3) := dk_184 0 33 (dk_at dksX4_next_7 16 rfl rfl)
theorem dX4_next_178 : decode cX4_next 178 = .ok (.ifCond .eq 39, 3) := dk_153 0 39 (dk_at dksX4_next_7 19 rfl rfl)
theorem dX4_next_181 : decode cX4_next 181 = .ok (.aload_n 0, 1) := dk_42 (dk_at dksX4_next_7 22 rfl rfl)
theorem dX4_next_182 : decode cX4_next 182 = .ok (.getfield 19, 3) := dk_180 0 19 (dk_at dksX4_next_8 0 rfl rfl)
theorem dX4_next_185 : decode cX4_next 185 = .ok (.iload_n 1, 1) := dk_27 (dk_at dksX4_next_8 3 rfl rfl)
theorem dX4_next_186 : decode cX4_next 186 = .ok (.isub, 1) := dk_100 (dk_at dksX4_next_8 4 rfl rfl)
theorem dX4_next_187 : decode cX4_next 187 = .ok (.iconst 3, 1) := dk_6 (dk_at dksX4_next_8 5 rfl rfl)
theorem dX4_next_188 : decode cX4_next 188 = .ok (.if_icmp .ge 16, 3) := dk_162 0 16 (dk_at dksX4_next_8 6 rfl rfl)
theorem dX4_next_191 : decode cX4_next 191 = .ok (.bipush 10, 2) := dk_16 10 (dk_at dksX4_next_8 9 rfl rfl)
theorem dX4_next_193 : decode cX4_next 193 = .ok (.iload_n 2, 1) := dk_28 (dk_at dksX4_next_8 11 rfl rfl)
theorem dX4_next_194 : decode cX4_next 194 = .ok (.imul, 1) := dk_104 (dk_at dksX4_next_8 12 rfl rfl)
theorem dX4_next_195 : decode cX4_next 195 = .ok (.aload_n 0, 1) := dk_42 (dk_at dksX4_next_8 13 rfl rfl)
theorem dX4_next_196 : decode cX4_next 196 = .ok (.invokevirtual 22, 3) := dk_182 0 22 (dk_at dksX4_next_8 14 rfl rfl)
theorem dX4_next_199 : decode cX4_next 199 = .ok (.iadd, 1) := dk_96 (dk_at dksX4_next_8 17 rfl rfl)
theorem dX4_next_200 : decode cX4_next 200 = .ok (.bipush 48, 2) := dk_16 48 (dk_at dksX4_next_8 18 rfl rfl)
theorem dX4_next_202 : decode cX4_next 202 = .ok (.isub, 1) := dk_100 (dk_at dksX4_next_8 20 rfl rfl)
theorem dX4_next_203 : decode cX4_next 203 = .ok (.istore_n 2, 1) := dk_61 (dk_at dksX4_next_8 21 rfl rfl)
theorem dX4_next_204 : decode cX4_next 204 = .ok (.aload_n 0, 1) := dk_42 (dk_at dksX4_next_8 22 rfl rfl)
theorem dX4_next_205 : decode cX4_next 205 = .ok (.dup, 1) := dk_89 (dk_at dksX4_next_8 23 rfl rfl)
theorem dX4_next_206 : decode cX4_next 206 = .ok (.getfield 19, 3) := dk_180 0 19 (dk_at dksX4_next_9 0 rfl rfl)
theorem dX4_next_209 : decode cX4_next 209 = .ok (.iconst 1, 1) := dk_4 (dk_at dksX4_next_9 3 rfl rfl)
theorem dX4_next_210 : decode cX4_next 210 = .ok (.iadd, 1) := dk_96 (dk_at dksX4_next_9 4 rfl rfl)
theorem dX4_next_211 : decode cX4_next 211 = .ok (.putfield 19, 3) := dk_181 0 19 (dk_at dksX4_next_9 5 rfl rfl)
theorem dX4_next_214 : decode cX4_next 214 = .ok (.goto (-47), 3) := dk_167 255 209 (dk_at dksX4_next_9 8 rfl rfl)
theorem dX4_next_217 : decode cX4_next 217 = .ok (.new 26, 3) := dk_187 0 26 (dk_at dksX4_next_9 11 rfl rfl)
theorem dX4_next_220 : decode cX4_next 220 = .ok (.dup, 1) := dk_89 (dk_at dksX4_next_9 14 rfl rfl)
theorem dX4_next_221 : decode cX4_next 221 = .ok (.aload_n 0, 1) := dk_42 (dk_at dksX4_next_9 15 rfl rfl)
theorem dX4_next_222 : decode cX4_next 222 = .ok (.getfield 19, 3) := dk_180 0 19 (dk_at dksX4_next_9 16 rfl rfl)
theorem dX4_next_225 : decode cX4_next 225 = .ok (.iload_n 1, 1) := dk_27 (dk_at dksX4_next_9 19 rfl rfl)
theorem dX4_next_226 : decode cX4_next 226 = .ok (.isub, 1) := dk_100 (dk_at dksX4_next_9 20 rfl rfl)
theorem dX4_next_227 : decode cX4_next 227 = .ok (.iconst 3, 1) := dk_6 (dk_at dksX4_next_9 21 rfl rfl)
theorem dX4_next_228 : decode cX4_next 228 = .ok (.if_icmp .le 7, 3) := dk_164 0 7 (dk_at dksX4_next_10 0 rfl rfl)
theorem dX4_next_231 : decode cX4_next 231 = .ok (.iconst 0, 1) := dk_3 (dk_at dksX4_next_10 3 rfl rfl)
theorem dX4_next_232 : decode cX4_next 232 = .ok (.goto 4, 3) := dk_167 0 4 (dk_at dksX4_next_10 4 rfl rfl)
theorem dX4_next_235 : decode cX4_next 235 = .ok (.iconst 3, 1) := dk_6 (dk_at dksX4_next_10 7 rfl rfl)
theorem dX4_next_236 : decode cX4_next 236 = .ok (.iload_n 1, 1) := dk_27 (dk_at dksX4_next_10 8 rfl rfl)
theorem dX4_next_237 : decode cX4_next 237 = .ok (.iload_n 2, 1) := dk_28 (dk_at dksX4_next_10 9 rfl rfl)
theorem dX4_next_238 : decode cX4_next 238 = .ok (.ldc 28, 2) := dk_18 28 (dk_at dksX4_next_10 10 rfl rfl)
theorem dX4_next_240 : decode cX4_next 240 = .ok (.invokespecial 30, 3) := dk_183 0 30 (dk_at dksX4_next_10 12 rfl rfl)
theorem dX4_next_243 : decode cX4_next 243 = .ok (.areturn, 1) := dk_176 (dk_at dksX4_next_10 15 rfl rfl)
theorem dX4_next_244 : decode cX4_next 244 = .ok (.aload_n 0, 1) := dk_42 (dk_at dksX4_next_10 16 rfl rfl)
theorem dX4_next_245 : decode cX4_next 245 = .ok (.invokevirtual 22, 3) := dk_182 0 22 (dk_at dksX4_next_10 17 rfl rfl)
theorem dX4_next_248 : decode cX4_next 248 = .ok (.istore_n 2, 1) := dk_61 (dk_at dksX4_next_10 20 rfl rfl)
theorem dX4_next_249 : decode cX4_next 249 = .ok (.aload_n 0, 1) := dk_42 (dk_at dksX4_next_10 21 rfl rfl)
theorem dX4_next_250 : decode cX4_next 250 = .ok (.dup, 1) := dk_89 (dk_at dksX4_next_10 22 rfl rfl)
theorem dX4_next_251 : decode cX4_next 251 = .ok (.getfield 19, 3) := dk_180 0 19 (dk_at dksX4_next_11 0 rfl rfl)
theorem dX4_next_254 : decode cX4_next 254 = .ok (.iconst 1, 1) := dk_4 (dk_at dksX4_next_11 3 rfl rfl)
theorem dX4_next_255 : decode cX4_next 255 = .ok (.iadd, 1) := dk_96 (dk_at dksX4_next_11 4 rfl rfl)
theorem dX4_next_256 : decode cX4_next 256 = .ok (.putfield 19, 3) := dk_181 0 19 (dk_at dksX4_next_11 5 rfl rfl)
theorem dX4_next_259 : decode cX4_next 259 = .ok (.new 26, 3) := dk_187 0 26 (dk_at dksX4_next_11 8 rfl rfl)
theorem dX4_next_262 : decode cX4_next 262 = .ok (.dup, 1) := dk_89 (dk_at dksX4_next_11 11 rfl rfl)
theorem dX4_next_263 : decode cX4_next 263 = .ok (.iload_n 2, 1) := dk_28 (dk_at dksX4_next_11 12 rfl rfl)
theorem dX4_next_264 : decode cX4_next 264 = .ok (.bipush 59, 2) := dk_16 59 (dk_at dksX4_next_11 13 rfl rfl)
theorem dX4_next_266 : decode cX4_next 266 = .ok (.if_icmp .ne 7, 3) := dk_160 0 7 (dk_at dksX4_next_11 15 rfl rfl)
theorem dX4_next_269 : decode cX4_next 269 = .ok (.iconst 4, 1) := dk_7 (dk_at dksX4_next_11 18 rfl rfl)
theorem dX4_next_270 : decode cX4_next 270 = .ok (.goto 4, 3) := dk_167 0 4 (dk_at dksX4_next_11 19 rfl rfl)
theorem dX4_next_273 : decode cX4_next 273 = .ok (.iconst 0, 1) := dk_3 (dk_at dksX4_next_11 22 rfl rfl)
theorem dX4_next_274 : decode cX4_next 274 = .ok (.iload_n 1, 1) := dk_27 (dk_at dksX4_next_11 23 rfl rfl)
theorem dX4_next_275 : decode cX4_next 275 = .ok (.iload_n 2, 1) := dk_28 (dk_at dksX4_next_12 0 rfl rfl)
theorem dX4_next_276 : decode cX4_next 276 = .ok (.ldc 28, 2) := dk_18 28 (dk_at dksX4_next_12 1 rfl rfl)
theorem dX4_next_278 : decode cX4_next 278 = .ok (.invokespecial 30, 3) := dk_183 0 30 (dk_at dksX4_next_12 3 rfl rfl)
theorem dX4_next_281 : decode cX4_next 281 = .ok (.areturn, 1) := dk_176 (dk_at dksX4_next_12 6 rfl rfl)
abbrev cX4_look : ByteArray := prog_14_method_2_code
def yX4_look : MethodName := ⟨RX4, "look", "()I"⟩
def dkwX4_look_1 : List UInt8 := [167, 0, 4, 2, 172]
abbrev dktX4_look_1 : List UInt8 := dkwX4_look_1 ++ []
def dkwX4_look_0 : List UInt8 := [42, 180, 0, 19, 42, 180, 0, 15, 162, 0, 19, 42, 180, 0, 9, 42, 180, 0, 19, 51, 17, 0, 255, 126]
abbrev dktX4_look_0 : List UInt8 := dkwX4_look_0 ++ dktX4_look_1
theorem dksX4_look_0 : cX4_look.data.toList.drop 0 = dktX4_look_0 := by decide +kernel
theorem dksX4_look_1 : cX4_look.data.toList.drop 24 = dktX4_look_1 := dk_seg dksX4_look_0 24 rfl rfl
theorem dX4_look_0 : decode cX4_look 0 = .ok (.aload_n 0, 1) := dk_42 (dk_at dksX4_look_0 0 rfl rfl)
theorem dX4_look_1 : decode cX4_look 1 = .ok (.getfield 19, 3) := dk_180 0 19 (dk_at dksX4_look_0 1 rfl rfl)
theorem dX4_look_4 : decode cX4_look 4 = .ok (.aload_n 0, 1) := dk_42 (dk_at dksX4_look_0 4 rfl rfl)
theorem dX4_look_5 : decode cX4_look 5 = .ok (.getfield 15, 3) := dk_180 0 15 (dk_at dksX4_look_0 5 rfl rfl)
theorem dX4_look_8 : decode cX4_look 8 = .ok (.if_icmp .ge 19, 3) := dk_162 0 19 (dk_at dksX4_look_0 8 rfl rfl)
theorem dX4_look_11 : decode cX4_look 11 = .ok (.aload_n 0, 1) := dk_42 (dk_at dksX4_look_0 11 rfl rfl)
theorem dX4_look_12 : decode cX4_look 12 = .ok (.getfield 9, 3) := dk_180 0 9 (dk_at dksX4_look_0 12 rfl rfl)
theorem dX4_look_15 : decode cX4_look 15 = .ok (.aload_n 0, 1) := dk_42 (dk_at dksX4_look_0 15 rfl rfl)
theorem dX4_look_16 : decode cX4_look 16 = .ok (.getfield 19, 3) := dk_180 0 19 (dk_at dksX4_look_0 16 rfl rfl)
theorem dX4_look_19 : decode cX4_look 19 = .ok (.baload, 1) := dk_51 (dk_at dksX4_look_0 19 rfl rfl)
theorem dX4_look_20 : decode cX4_look 20 = .ok (.sipush 255, 3) := dk_17 0 255 (dk_at dksX4_look_0 20 rfl rfl)
theorem dX4_look_23 : decode cX4_look 23 = .ok (.iand, 1) := dk_126 (dk_at dksX4_look_0 23 rfl rfl)
theorem dX4_look_24 : decode cX4_look 24 = .ok (.goto 4, 3) := dk_167 0 4 (dk_at dksX4_look_1 0 rfl rfl)
theorem dX4_look_27 : decode cX4_look 27 = .ok (.iconst (-1), 1) := dk_2 (dk_at dksX4_look_1 3 rfl rfl)
theorem dX4_look_28 : decode cX4_look 28 = .ok (.ireturn, 1) := dk_172 (dk_at dksX4_look_1 4 rfl rfl)
theorem q128 : (Jvm.Cond.initialized "FigureKnee$Tokens") ∈ lw_all := lw_g (lw_at lw_m1 7 rfl) rfl
theorem q271 : (Jvm.Cond.instantiable "FigureKnee$Tokens" (3 : Nat)) ∈ lw_all := lw_g (lw_at lw_m1 150 rfl) rfl
theorem q273 : (Jvm.Cond.instanceMethod ({ cls := "FigureKnee$Tokens", name := "<init>", desc := "([BI)V" } : Jvm.MethodName)) ∈ lw_all := lw_g (lw_at lw_m1 152 rfl) rfl
theorem q274 : (Jvm.Cond.code ({ cls := "FigureKnee$Tokens", name := "<init>", desc := "([BI)V" } : Jvm.MethodName) prog_14_method_1_code (3 : Nat) (Option.none : Option Jvm.ClassFile.FieldType)) ∈ lw_all := lw_g (lw_at lw_m1 153 rfl) rfl
theorem q275 : (Jvm.Cond.methodLink "FigureKnee$Tokens" (3 : Nat) ({ cls := "java/lang/Object", name := "<init>", desc := "()V" } : Jvm.MethodName)) ∈ lw_all := lw_g (lw_at lw_m1 154 rfl) rfl
theorem q276 : (Jvm.Cond.fieldLink "FigureKnee$Tokens" (9 : Nat) "FigureKnee$Tokens" "text" "[B") ∈ lw_all := lw_g (lw_at lw_m1 155 rfl) rfl
theorem q277 : (Jvm.Cond.fieldLink "FigureKnee$Tokens" (15 : Nat) "FigureKnee$Tokens" "size" "I") ∈ lw_all := lw_g (lw_at lw_m1 156 rfl) rfl
theorem q278 : (Jvm.Cond.fieldLink "FigureKnee$Tokens" (19 : Nat) "FigureKnee$Tokens" "at" "I") ∈ lw_all := lw_g (lw_at lw_m1 157 rfl) rfl
theorem q279 : (Jvm.Cond.laysFinal "FigureKnee$Tokens" "FigureKnee$Tokens" "text" "[B") ∈ lw_all := lw_g (lw_at lw_m1 158 rfl) rfl
theorem q280 : (Jvm.Cond.soleField "FigureKnee$Tokens" "text") ∈ lw_all := lw_g (lw_at lw_m1 159 rfl) rfl
theorem q281 : (Jvm.Cond.laysFinal "FigureKnee$Tokens" "FigureKnee$Tokens" "size" "I") ∈ lw_all := lw_g (lw_at lw_m1 160 rfl) rfl
theorem q282 : (Jvm.Cond.soleField "FigureKnee$Tokens" "size") ∈ lw_all := lw_g (lw_at lw_m1 161 rfl) rfl
theorem q283 : (Jvm.Cond.lays "FigureKnee$Tokens" "FigureKnee$Tokens" "at" "I") ∈ lw_all := lw_g (lw_at lw_m1 162 rfl) rfl
theorem q284 : (Jvm.Cond.soleField "FigureKnee$Tokens" "at") ∈ lw_all := lw_g (lw_at lw_m1 163 rfl) rfl
theorem q285 : (Jvm.Cond.superclass "FigureKnee$Tokens" "java/lang/Object") ∈ lw_all := lw_g (lw_at lw_m1 164 rfl) rfl
theorem q339 : (Jvm.Cond.instanceMethod ({ cls := "FigureKnee$Tokens", name := "next", desc := "()LFigureKnee$Token;" } : Jvm.MethodName)) ∈ lw_all := lw_g (lw_at lw_m1 218 rfl) rfl
theorem q340 : (Jvm.Cond.selects "FigureKnee$Tokens" ({ cls := "FigureKnee$Tokens", name := "next", desc := "()LFigureKnee$Token;" } : Jvm.MethodName) ({ cls := "FigureKnee$Tokens", name := "next", desc := "()LFigureKnee$Token;" } : Jvm.MethodName)) ∈ lw_all := lw_g (lw_at lw_m1 219 rfl) rfl
theorem q341 : (Jvm.Cond.code ({ cls := "FigureKnee$Tokens", name := "next", desc := "()LFigureKnee$Token;" } : Jvm.MethodName) prog_14_method_3_code (3 : Nat) (Option.some (Jvm.ClassFile.FieldType.object "FigureKnee$Token"))) ∈ lw_all := lw_g (lw_at lw_m1 220 rfl) rfl
theorem q342 : (Jvm.Cond.methodLink "FigureKnee$Tokens" (22 : Nat) ({ cls := "FigureKnee$Tokens", name := "look", desc := "()I" } : Jvm.MethodName)) ∈ lw_all := lw_g (lw_at lw_m1 221 rfl) rfl
theorem q343 : (Jvm.Cond.privateMethod ({ cls := "FigureKnee$Tokens", name := "look", desc := "()I" } : Jvm.MethodName)) ∈ lw_tbl := lw_at lw_m1 222 rfl
theorem q344 : (Jvm.Cond.instanceMethod ({ cls := "FigureKnee$Tokens", name := "look", desc := "()I" } : Jvm.MethodName)) ∈ lw_all := lw_g (lw_at lw_m1 223 rfl) rfl
theorem q345 : (Jvm.Cond.code ({ cls := "FigureKnee$Tokens", name := "look", desc := "()I" } : Jvm.MethodName) prog_14_method_2_code (1 : Nat) (Option.some Jvm.ClassFile.FieldType.int)) ∈ lw_all := lw_g (lw_at lw_m1 224 rfl) rfl
theorem q346 : (Jvm.Cond.classLink "FigureKnee$Tokens" (26 : Nat) "FigureKnee$Token") ∈ lw_all := lw_g (lw_at lw_m1 225 rfl) rfl
theorem q348 : (Jvm.Cond.stringRef "FigureKnee$Tokens" (28 : Nat) "") ∈ lw_tbl := lw_at lw_m1 227 rfl
theorem q349 : (Jvm.Cond.methodLink "FigureKnee$Tokens" (30 : Nat) ({ cls := "FigureKnee$Token", name := "<init>", desc := "(IIILjava/lang/String;)V" } : Jvm.MethodName)) ∈ lw_all := lw_g (lw_at lw_m1 228 rfl) rfl
theorem q370 : (Jvm.Cond.methodLinkNest "FigureKnee$Tokens" (33 : Nat) ({ cls := "FigureKnee", name := "in", desc := "(III)Z" } : Jvm.MethodName) "FigureKnee") ∈ lw_tbl := lw_at lw_m2 9 rfl
theorem q371 : (Jvm.Cond.classLink "FigureKnee$Tokens" (37 : Nat) "java/lang/StringBuilder") ∈ lw_all := lw_g (lw_at lw_m2 10 rfl) rfl
theorem q373 : (Jvm.Cond.methodLink "FigureKnee$Tokens" (39 : Nat) ({ cls := "java/lang/StringBuilder", name := "<init>", desc := "()V" } : Jvm.MethodName)) ∈ lw_all := lw_g (lw_at lw_m2 12 rfl) rfl
theorem q402 : (Jvm.Cond.methodLink "FigureKnee$Tokens" (40 : Nat) ({ cls := "java/lang/StringBuilder", name := "append", desc := "(C)Ljava/lang/StringBuilder;" } : Jvm.MethodName)) ∈ lw_all := lw_g (lw_at lw_m2 41 rfl) rfl
theorem q497 : (Jvm.Cond.methodLink "FigureKnee$Tokens" (44 : Nat) ({ cls := "java/lang/StringBuilder", name := "toString", desc := "()Ljava/lang/String;" } : Jvm.MethodName)) ∈ lw_all := lw_g (lw_at lw_m2 136 rfl) rfl
theorem q855 : (Jvm.Cond.selects "FigureKnee$Tokens" ({ cls := "java/lang/Object", name := "getClass", desc := "()Ljava/lang/Class;" } : Jvm.MethodName) ({ cls := "java/lang/Object", name := "getClass", desc := "()Ljava/lang/Class;" } : Jvm.MethodName)) ∈ lw_all := lw_g (lw_at lw_m4 14 rfl) rfl
theorem q2201 : (Jvm.Cond.castable "FigureKnee$Tokens" "java/lang/Object") ∈ lw_tbl := lw_at lw_m9 160 rfl
theorem in_X4 : ∀ w ∈ wsX40, w ∈ lw_all := lw_in wsX40 [279, 281, 283] (by decide +kernel) (by decide +kernel)

/-! FigureKnee$Pier -/
set_option maxRecDepth 100000
def RX5 : String := "FigureKnee$Pier"
def TX5 : u_T := fun k => match k with
  | 0 => ("FigureKnee$Pier", "words", "I", false)
  | 1 => ("FigureKnee$Pier", "dumb", "I", false)
  | 2 => ("FigureKnee$Pier", "contracts", "I", false)
  | 3 => ("FigureKnee$Pier", "unsures", "I", false)
  | 4 => ("FigureKnee$Pier", "pairs", "Ljava/util/ArrayList;", true)
  | 5 => ("FigureKnee$Pier", "debts", "Ljava/util/ArrayList;", true)
  | 6 => ("FigureKnee$Pier", "heard", "Ljava/util/ArrayList;", true)
  | _ => ("FigureKnee$Pier", "unsure", "[I", true)
def tyX5 : Nat → FieldType := fun k => match k with
  | 0 => .int
  | 1 => .int
  | 2 => .int
  | 3 => .int
  | 4 => .object "java/util/ArrayList"
  | 5 => .object "java/util/ArrayList"
  | 6 => .object "java/util/ArrayList"
  | _ => .array .int
abbrev wsX50 : List Cond := u_ws RX5 TX5 8
theorem nmX5 : ∀ a, a < 8 → ∀ b, b < 8 → a ≠ b → (TX5 a).2.1 ≠ (TX5 b).2.1 := by decide +kernel
theorem tyX5_ok : ∀ k, k < 8 → parseFieldDescriptor (TX5 k).2.2.1 = some (tyX5 k) := by decide +kernel
abbrev cX5_init : ByteArray := prog_9_method_1_code
def yX5_init : MethodName := ⟨RX5, "<init>", "()V"⟩
def dkwX5_init_2 : List UInt8 := [181, 0, 28, 177]
abbrev dktX5_init_2 : List UInt8 := dkwX5_init_2 ++ []
def dkwX5_init_1 : List UInt8 := [89, 183, 0, 17, 181, 0, 22, 42, 187, 0, 15, 89, 183, 0, 17, 181, 0, 25, 42, 7, 188, 10]
abbrev dktX5_init_1 : List UInt8 := dkwX5_init_1 ++ dktX5_init_2
def dkwX5_init_0 : List UInt8 := [42, 183, 0, 3, 42, 2, 181, 0, 9, 42, 187, 0, 15, 89, 183, 0, 17, 181, 0, 18, 42, 187, 0, 15]
abbrev dktX5_init_0 : List UInt8 := dkwX5_init_0 ++ dktX5_init_1
theorem dksX5_init_0 : cX5_init.data.toList.drop 0 = dktX5_init_0 := by decide +kernel
theorem dksX5_init_1 : cX5_init.data.toList.drop 24 = dktX5_init_1 := dk_seg dksX5_init_0 24 rfl rfl
theorem dksX5_init_2 : cX5_init.data.toList.drop 46 = dktX5_init_2 := dk_seg dksX5_init_1 22 rfl rfl
theorem dX5_init_0 : decode cX5_init 0 = .ok (.aload_n 0, 1) := dk_42 (dk_at dksX5_init_0 0 rfl rfl)
theorem dX5_init_1 : decode cX5_init 1 = .ok (.invokespecial 3, 3) := dk_183 0 3 (dk_at dksX5_init_0 1 rfl rfl)
theorem dX5_init_4 : decode cX5_init 4 = .ok (.aload_n 0, 1) := dk_42 (dk_at dksX5_init_0 4 rfl rfl)
theorem dX5_init_5 : decode cX5_init 5 = .ok (.iconst (-1), 1) := dk_2 (dk_at dksX5_init_0 5 rfl rfl)
theorem dX5_init_6 : decode cX5_init 6 = .ok (.putfield 9, 3) := dk_181 0 9 (dk_at dksX5_init_0 6 rfl rfl)
theorem dX5_init_9 : decode cX5_init 9 = .ok (.aload_n 0, 1) := dk_42 (dk_at dksX5_init_0 9 rfl rfl)
theorem dX5_init_10 : decode cX5_init 10 = .ok (.new 15, 3) := dk_187 0 15 (dk_at dksX5_init_0 10 rfl rfl)
theorem dX5_init_13 : decode cX5_init 13 = .ok (.dup, 1) := dk_89 (dk_at dksX5_init_0 13 rfl rfl)
theorem dX5_init_14 : decode cX5_init 14 = .ok (.invokespecial 17, 3) := dk_183 0 17 (dk_at dksX5_init_0 14 rfl rfl)
theorem dX5_init_17 : decode cX5_init 17 = .ok (.putfield 18, 3) := dk_181 0 18 (dk_at dksX5_init_0 17 rfl rfl)
theorem dX5_init_20 : decode cX5_init 20 = .ok (.aload_n 0, 1) := dk_42 (dk_at dksX5_init_0 20 rfl rfl)
theorem dX5_init_21 : decode cX5_init 21 = .ok (.new 15, 3) := dk_187 0 15 (dk_at dksX5_init_0 21 rfl rfl)
theorem dX5_init_24 : decode cX5_init 24 = .ok (.dup, 1) := dk_89 (dk_at dksX5_init_1 0 rfl rfl)
theorem dX5_init_25 : decode cX5_init 25 = .ok (.invokespecial 17, 3) := dk_183 0 17 (dk_at dksX5_init_1 1 rfl rfl)
theorem dX5_init_28 : decode cX5_init 28 = .ok (.putfield 22, 3) := dk_181 0 22 (dk_at dksX5_init_1 4 rfl rfl)
theorem dX5_init_31 : decode cX5_init 31 = .ok (.aload_n 0, 1) := dk_42 (dk_at dksX5_init_1 7 rfl rfl)
theorem dX5_init_32 : decode cX5_init 32 = .ok (.new 15, 3) := dk_187 0 15 (dk_at dksX5_init_1 8 rfl rfl)
theorem dX5_init_35 : decode cX5_init 35 = .ok (.dup, 1) := dk_89 (dk_at dksX5_init_1 11 rfl rfl)
theorem dX5_init_36 : decode cX5_init 36 = .ok (.invokespecial 17, 3) := dk_183 0 17 (dk_at dksX5_init_1 12 rfl rfl)
theorem dX5_init_39 : decode cX5_init 39 = .ok (.putfield 25, 3) := dk_181 0 25 (dk_at dksX5_init_1 15 rfl rfl)
theorem dX5_init_42 : decode cX5_init 42 = .ok (.aload_n 0, 1) := dk_42 (dk_at dksX5_init_1 18 rfl rfl)
theorem dX5_init_43 : decode cX5_init 43 = .ok (.iconst 4, 1) := dk_7 (dk_at dksX5_init_1 19 rfl rfl)
theorem dX5_init_44 : decode cX5_init 44 = .ok (.newarray .int, 2) := dk_188_10 (dk_at dksX5_init_1 20 rfl rfl)
theorem dX5_init_46 : decode cX5_init 46 = .ok (.putfield 28, 3) := dk_181 0 28 (dk_at dksX5_init_2 0 rfl rfl)
theorem dX5_init_49 : decode cX5_init 49 = .ok (.return_, 1) := dk_177 (dk_at dksX5_init_2 3 rfl rfl)
abbrev cX5_find : ByteArray := prog_9_method_2_code
def yX5_find : MethodName := ⟨RX5, "find", "(Ljava/lang/String;)I"⟩
def dkwX5_find_1 : List UInt8 := [180, 0, 42, 43, 182, 0, 46, 153, 0, 5, 28, 172, 132, 2, 1, 167, 255, 219, 2, 172]
abbrev dktX5_find_1 : List UInt8 := dkwX5_find_1 ++ []
def dkwX5_find_0 : List UInt8 := [3, 61, 28, 42, 180, 0, 18, 182, 0, 32, 162, 0, 32, 42, 180, 0, 18, 28, 182, 0, 36, 192, 0, 40]
abbrev dktX5_find_0 : List UInt8 := dkwX5_find_0 ++ dktX5_find_1
theorem dksX5_find_0 : cX5_find.data.toList.drop 0 = dktX5_find_0 := by decide +kernel
theorem dksX5_find_1 : cX5_find.data.toList.drop 24 = dktX5_find_1 := dk_seg dksX5_find_0 24 rfl rfl
theorem dX5_find_0 : decode cX5_find 0 = .ok (.iconst 0, 1) := dk_3 (dk_at dksX5_find_0 0 rfl rfl)
theorem dX5_find_1 : decode cX5_find 1 = .ok (.istore_n 2, 1) := dk_61 (dk_at dksX5_find_0 1 rfl rfl)
theorem dX5_find_2 : decode cX5_find 2 = .ok (.iload_n 2, 1) := dk_28 (dk_at dksX5_find_0 2 rfl rfl)
theorem dX5_find_3 : decode cX5_find 3 = .ok (.aload_n 0, 1) := dk_42 (dk_at dksX5_find_0 3 rfl rfl)
theorem dX5_find_4 : decode cX5_find 4 = .ok (.getfield 18, 3) := dk_180 0 18 (dk_at dksX5_find_0 4 rfl rfl)
theorem dX5_find_7 : decode cX5_find 7 = .ok (.invokevirtual 32, 3) := dk_182 0 32 (dk_at dksX5_find_0 7 rfl rfl)
theorem dX5_find_10 : decode cX5_find 10 = .ok (.if_icmp .ge 32, 3) := dk_162 0 32 (dk_at dksX5_find_0 10 rfl rfl)
theorem dX5_find_13 : decode cX5_find 13 = .ok (.aload_n 0, 1) := dk_42 (dk_at dksX5_find_0 13 rfl rfl)
theorem dX5_find_14 : decode cX5_find 14 = .ok (.getfield 18, 3) := dk_180 0 18 (dk_at dksX5_find_0 14 rfl rfl)
theorem dX5_find_17 : decode cX5_find 17 = .ok (.iload_n 2, 1) := dk_28 (dk_at dksX5_find_0 17 rfl rfl)
theorem dX5_find_18 : decode cX5_find 18 = .ok (.invokevirtual 36, 3) := dk_182 0 36 (dk_at dksX5_find_0 18 rfl rfl)
theorem dX5_find_21 : decode cX5_find 21 = .ok (.checkcast 40, 3) := dk_192 0 40 (dk_at dksX5_find_0 21 rfl rfl)
theorem dX5_find_24 : decode cX5_find 24 = .ok (.getfield 42, 3) := dk_180 0 42 (dk_at dksX5_find_1 0 rfl rfl)
theorem dX5_find_27 : decode cX5_find 27 = .ok (.aload_n 1, 1) := dk_43 (dk_at dksX5_find_1 3 rfl rfl)
theorem dX5_find_28 : decode cX5_find 28 = .ok (.invokevirtual 46, 3) := dk_182 0 46 (dk_at dksX5_find_1 4 rfl rfl)
theorem dX5_find_31 : decode cX5_find 31 = .ok (.ifCond .eq 5, 3) := dk_153 0 5 (dk_at dksX5_find_1 7 rfl rfl)
theorem dX5_find_34 : decode cX5_find 34 = .ok (.iload_n 2, 1) := dk_28 (dk_at dksX5_find_1 10 rfl rfl)
theorem dX5_find_35 : decode cX5_find 35 = .ok (.ireturn, 1) := dk_172 (dk_at dksX5_find_1 11 rfl rfl)
theorem dX5_find_36 : decode cX5_find 36 = .ok (.iinc 2 1, 3) := dk_132 2 1 (dk_at dksX5_find_1 12 rfl rfl)
theorem dX5_find_39 : decode cX5_find 39 = .ok (.goto (-37), 3) := dk_167 255 219 (dk_at dksX5_find_1 15 rfl rfl)
theorem dX5_find_42 : decode cX5_find 42 = .ok (.iconst (-1), 1) := dk_2 (dk_at dksX5_find_1 18 rfl rfl)
theorem dX5_find_43 : decode cX5_find 43 = .ok (.ireturn, 1) := dk_172 (dk_at dksX5_find_1 19 rfl rfl)
abbrev cX5_isOwed : ByteArray := prog_9_method_3_code
def yX5_isOwed : MethodName := ⟨RX5, "isOwed", "(II)Z"⟩
def dkwX5_isOwed_2 : List UInt8 := [160, 0, 5, 4, 172, 132, 3, 1, 167, 255, 204, 3, 172]
abbrev dktX5_isOwed_2 : List UInt8 := dkwX5_isOwed_2 ++ []
def dkwX5_isOwed_1 : List UInt8 := [180, 0, 54, 27, 160, 0, 23, 42, 180, 0, 22, 29, 182, 0, 36, 192, 0, 52, 180, 0, 57, 28]
abbrev dktX5_isOwed_1 : List UInt8 := dkwX5_isOwed_1 ++ dktX5_isOwed_2
def dkwX5_isOwed_0 : List UInt8 := [3, 62, 29, 42, 180, 0, 22, 182, 0, 32, 162, 0, 47, 42, 180, 0, 22, 29, 182, 0, 36, 192, 0, 52]
abbrev dktX5_isOwed_0 : List UInt8 := dkwX5_isOwed_0 ++ dktX5_isOwed_1
theorem dksX5_isOwed_0 : cX5_isOwed.data.toList.drop 0 = dktX5_isOwed_0 := by decide +kernel
theorem dksX5_isOwed_1 : cX5_isOwed.data.toList.drop 24 = dktX5_isOwed_1 := dk_seg dksX5_isOwed_0 24 rfl rfl
theorem dksX5_isOwed_2 : cX5_isOwed.data.toList.drop 46 = dktX5_isOwed_2 := dk_seg dksX5_isOwed_1 22 rfl rfl
theorem dX5_isOwed_0 : decode cX5_isOwed 0 = .ok (.iconst 0, 1) := dk_3 (dk_at dksX5_isOwed_0 0 rfl rfl)
theorem dX5_isOwed_1 : decode cX5_isOwed 1 = .ok (.istore_n 3, 1) := dk_62 (dk_at dksX5_isOwed_0 1 rfl rfl)
theorem dX5_isOwed_2 : decode cX5_isOwed 2 = .ok (.iload_n 3, 1) := dk_29 (dk_at dksX5_isOwed_0 2 rfl rfl)
theorem dX5_isOwed_3 : decode cX5_isOwed 3 = .ok (.aload_n 0, 1) := dk_42 (dk_at dksX5_isOwed_0 3 rfl rfl)
theorem dX5_isOwed_4 : decode cX5_isOwed 4 = .ok (.getfield 22, 3) := dk_180 0 22 (dk_at dksX5_isOwed_0 4 rfl rfl)
theorem dX5_isOwed_7 : decode cX5_isOwed 7 = .ok (.invokevirtual 32, 3) := dk_182 0 32 (dk_at dksX5_isOwed_0 7 rfl rfl)
theorem dX5_isOwed_10 : decode cX5_isOwed 10 = .ok (.if_icmp .ge 47, 3) := dk_162 0 47 (dk_at dksX5_isOwed_0 10 rfl rfl)
theorem dX5_isOwed_13 : decode cX5_isOwed 13 = .ok (.aload_n 0, 1) := dk_42 (dk_at dksX5_isOwed_0 13 rfl rfl)
theorem dX5_isOwed_14 : decode cX5_isOwed 14 = .ok (.getfield 22, 3) := dk_180 0 22 (dk_at dksX5_isOwed_0 14 rfl rfl)
theorem dX5_isOwed_17 : decode cX5_isOwed 17 = .ok (.iload_n 3, 1) := dk_29 (dk_at dksX5_isOwed_0 17 rfl rfl)
theorem dX5_isOwed_18 : decode cX5_isOwed 18 = .ok (.invokevirtual 36, 3) := dk_182 0 36 (dk_at dksX5_isOwed_0 18 rfl rfl)
theorem dX5_isOwed_21 : decode cX5_isOwed 21 = .ok (.checkcast 52, 3) := dk_192 0 52 (dk_at dksX5_isOwed_0 21 rfl rfl)
theorem dX5_isOwed_24 : decode cX5_isOwed 24 = .ok (.getfield 54, 3) := dk_180 0 54 (dk_at dksX5_isOwed_1 0 rfl rfl)
theorem dX5_isOwed_27 : decode cX5_isOwed 27 = .ok (.iload_n 1, 1) := dk_27 (dk_at dksX5_isOwed_1 3 rfl rfl)
theorem dX5_isOwed_28 : decode cX5_isOwed 28 = .ok (.if_icmp .ne 23, 3) := dk_160 0 23 (dk_at dksX5_isOwed_1 4 rfl rfl)
theorem dX5_isOwed_31 : decode cX5_isOwed 31 = .ok (.aload_n 0, 1) := dk_42 (dk_at dksX5_isOwed_1 7 rfl rfl)
theorem dX5_isOwed_32 : decode cX5_isOwed 32 = .ok (.getfield 22, 3) := dk_180 0 22 (dk_at dksX5_isOwed_1 8 rfl rfl)
theorem dX5_isOwed_35 : decode cX5_isOwed 35 = .ok (.iload_n 3, 1) := dk_29 (dk_at dksX5_isOwed_1 11 rfl rfl)
theorem dX5_isOwed_36 : decode cX5_isOwed 36 = .ok (.invokevirtual 36, 3) := dk_182 0 36 (dk_at dksX5_isOwed_1 12 rfl rfl)
theorem dX5_isOwed_39 : decode cX5_isOwed 39 = .ok (.checkcast 52, 3) := dk_192 0 52 (dk_at dksX5_isOwed_1 15 rfl rfl)
theorem dX5_isOwed_42 : decode cX5_isOwed 42 = .ok (.getfield 57, 3) := dk_180 0 57 (dk_at dksX5_isOwed_1 18 rfl rfl)
theorem dX5_isOwed_45 : decode cX5_isOwed 45 = .ok (.iload_n 2, 1) := dk_28 (dk_at dksX5_isOwed_1 21 rfl rfl)
theorem dX5_isOwed_46 : decode cX5_isOwed 46 = .ok (.if_icmp .ne 5, 3) := dk_160 0 5 (dk_at dksX5_isOwed_2 0 rfl rfl)
theorem dX5_isOwed_49 : decode cX5_isOwed 49 = .ok (.iconst 1, 1) := dk_4 (dk_at dksX5_isOwed_2 3 rfl rfl)
theorem dX5_isOwed_50 : decode cX5_isOwed 50 = .ok (.ireturn, 1) := dk_172 (dk_at dksX5_isOwed_2 4 rfl rfl)
theorem dX5_isOwed_51 : decode cX5_isOwed 51 = .ok (.iinc 3 1, 3) := dk_132 3 1 (dk_at dksX5_isOwed_2 5 rfl rfl)
theorem dX5_isOwed_54 : decode cX5_isOwed 54 = .ok (.goto (-52), 3) := dk_167 255 204 (dk_at dksX5_isOwed_2 8 rfl rfl)
theorem dX5_isOwed_57 : decode cX5_isOwed 57 = .ok (.iconst 0, 1) := dk_3 (dk_at dksX5_isOwed_2 11 rfl rfl)
theorem dX5_isOwed_58 : decode cX5_isOwed 58 = .ok (.ireturn, 1) := dk_172 (dk_at dksX5_isOwed_2 12 rfl rfl)
abbrev cX5_isHeard : ByteArray := prog_9_method_4_code
def yX5_isHeard : MethodName := ⟨RX5, "isHeard", "(II)Z"⟩
def dkwX5_isHeard_2 : List UInt8 := [160, 0, 5, 4, 172, 132, 3, 1, 167, 255, 204, 3, 172]
abbrev dktX5_isHeard_2 : List UInt8 := dkwX5_isHeard_2 ++ []
def dkwX5_isHeard_1 : List UInt8 := [180, 0, 62, 27, 160, 0, 23, 42, 180, 0, 25, 29, 182, 0, 36, 192, 0, 60, 180, 0, 65, 28]
abbrev dktX5_isHeard_1 : List UInt8 := dkwX5_isHeard_1 ++ dktX5_isHeard_2
def dkwX5_isHeard_0 : List UInt8 := [3, 62, 29, 42, 180, 0, 25, 182, 0, 32, 162, 0, 47, 42, 180, 0, 25, 29, 182, 0, 36, 192, 0, 60]
abbrev dktX5_isHeard_0 : List UInt8 := dkwX5_isHeard_0 ++ dktX5_isHeard_1
theorem dksX5_isHeard_0 : cX5_isHeard.data.toList.drop 0 = dktX5_isHeard_0 := by decide +kernel
theorem dksX5_isHeard_1 : cX5_isHeard.data.toList.drop 24 = dktX5_isHeard_1 := dk_seg dksX5_isHeard_0 24 rfl rfl
theorem dksX5_isHeard_2 : cX5_isHeard.data.toList.drop 46 = dktX5_isHeard_2 := dk_seg dksX5_isHeard_1 22 rfl rfl
theorem dX5_isHeard_0 : decode cX5_isHeard 0 = .ok (.iconst 0, 1) := dk_3 (dk_at dksX5_isHeard_0 0 rfl rfl)
theorem dX5_isHeard_1 : decode cX5_isHeard 1 = .ok (.istore_n 3, 1) := dk_62 (dk_at dksX5_isHeard_0 1 rfl rfl)
theorem dX5_isHeard_2 : decode cX5_isHeard 2 = .ok (.iload_n 3, 1) := dk_29 (dk_at dksX5_isHeard_0 2 rfl rfl)
theorem dX5_isHeard_3 : decode cX5_isHeard 3 = .ok (.aload_n 0, 1) := dk_42 (dk_at dksX5_isHeard_0 3 rfl rfl)
theorem dX5_isHeard_4 : decode cX5_isHeard 4 = .ok (.getfield 25, 3) := dk_180 0 25 (dk_at dksX5_isHeard_0 4 rfl rfl)
theorem dX5_isHeard_7 : decode cX5_isHeard 7 = .ok (.invokevirtual 32, 3) := dk_182 0 32 (dk_at dksX5_isHeard_0 7 rfl rfl)
theorem dX5_isHeard_10 : decode cX5_isHeard 10 = .ok (.if_icmp .ge 47, 3) := dk_162 0 47 (dk_at dksX5_isHeard_0 10 rfl rfl)
theorem dX5_isHeard_13 : decode cX5_isHeard 13 = .ok (.aload_n 0, 1) := dk_42 (dk_at dksX5_isHeard_0 13 rfl rfl)
theorem dX5_isHeard_14 : decode cX5_isHeard 14 = .ok (.getfield 25, 3) := dk_180 0 25 (dk_at dksX5_isHeard_0 14 rfl rfl)
theorem dX5_isHeard_17 : decode cX5_isHeard 17 = .ok (.iload_n 3, 1) := dk_29 (dk_at dksX5_isHeard_0 17 rfl rfl)
theorem dX5_isHeard_18 : decode cX5_isHeard 18 = .ok (.invokevirtual 36, 3) := dk_182 0 36 (dk_at dksX5_isHeard_0 18 rfl rfl)
theorem dX5_isHeard_21 : decode cX5_isHeard 21 = .ok (.checkcast 60, 3) := dk_192 0 60 (dk_at dksX5_isHeard_0 21 rfl rfl)
theorem dX5_isHeard_24 : decode cX5_isHeard 24 = .ok (.getfield 62, 3) := dk_180 0 62 (dk_at dksX5_isHeard_1 0 rfl rfl)
theorem dX5_isHeard_27 : decode cX5_isHeard 27 = .ok (.iload_n 1, 1) := dk_27 (dk_at dksX5_isHeard_1 3 rfl rfl)
theorem dX5_isHeard_28 : decode cX5_isHeard 28 = .ok (.if_icmp .ne 23, 3) := dk_160 0 23 (dk_at dksX5_isHeard_1 4 rfl rfl)
theorem dX5_isHeard_31 : decode cX5_isHeard 31 = .ok (.aload_n 0, 1) := dk_42 (dk_at dksX5_isHeard_1 7 rfl rfl)
theorem dX5_isHeard_32 : decode cX5_isHeard 32 = .ok (.getfield 25, 3) := dk_180 0 25 (dk_at dksX5_isHeard_1 8 rfl rfl)
theorem dX5_isHeard_35 : decode cX5_isHeard 35 = .ok (.iload_n 3, 1) := dk_29 (dk_at dksX5_isHeard_1 11 rfl rfl)
theorem dX5_isHeard_36 : decode cX5_isHeard 36 = .ok (.invokevirtual 36, 3) := dk_182 0 36 (dk_at dksX5_isHeard_1 12 rfl rfl)
theorem dX5_isHeard_39 : decode cX5_isHeard 39 = .ok (.checkcast 60, 3) := dk_192 0 60 (dk_at dksX5_isHeard_1 15 rfl rfl)
theorem dX5_isHeard_42 : decode cX5_isHeard 42 = .ok (.getfield 65, 3) := dk_180 0 65 (dk_at dksX5_isHeard_1 18 rfl rfl)
theorem dX5_isHeard_45 : decode cX5_isHeard 45 = .ok (.iload_n 2, 1) := dk_28 (dk_at dksX5_isHeard_1 21 rfl rfl)
theorem dX5_isHeard_46 : decode cX5_isHeard 46 = .ok (.if_icmp .ne 5, 3) := dk_160 0 5 (dk_at dksX5_isHeard_2 0 rfl rfl)
theorem dX5_isHeard_49 : decode cX5_isHeard 49 = .ok (.iconst 1, 1) := dk_4 (dk_at dksX5_isHeard_2 3 rfl rfl)
theorem dX5_isHeard_50 : decode cX5_isHeard 50 = .ok (.ireturn, 1) := dk_172 (dk_at dksX5_isHeard_2 4 rfl rfl)
theorem dX5_isHeard_51 : decode cX5_isHeard 51 = .ok (.iinc 3 1, 3) := dk_132 3 1 (dk_at dksX5_isHeard_2 5 rfl rfl)
theorem dX5_isHeard_54 : decode cX5_isHeard 54 = .ok (.goto (-52), 3) := dk_167 255 204 (dk_at dksX5_isHeard_2 8 rfl rfl)
theorem dX5_isHeard_57 : decode cX5_isHeard 57 = .ok (.iconst 0, 1) := dk_3 (dk_at dksX5_isHeard_2 11 rfl rfl)
theorem dX5_isHeard_58 : decode cX5_isHeard 58 = .ok (.ireturn, 1) := dk_172 (dk_at dksX5_isHeard_2 12 rfl rfl)
theorem q129 : (Jvm.Cond.initialized "FigureKnee$Pier") ∈ lw_all := lw_g (lw_at lw_m1 8 rfl) rfl
theorem q291 : (Jvm.Cond.instantiable "FigureKnee$Pier" (8 : Nat)) ∈ lw_all := lw_g (lw_at lw_m1 170 rfl) rfl
theorem q293 : (Jvm.Cond.instanceMethod ({ cls := "FigureKnee$Pier", name := "<init>", desc := "()V" } : Jvm.MethodName)) ∈ lw_all := lw_g (lw_at lw_m1 172 rfl) rfl
theorem q294 : (Jvm.Cond.code ({ cls := "FigureKnee$Pier", name := "<init>", desc := "()V" } : Jvm.MethodName) prog_9_method_1_code (1 : Nat) (Option.none : Option Jvm.ClassFile.FieldType)) ∈ lw_all := lw_g (lw_at lw_m1 173 rfl) rfl
theorem q295 : (Jvm.Cond.methodLink "FigureKnee$Pier" (3 : Nat) ({ cls := "java/lang/Object", name := "<init>", desc := "()V" } : Jvm.MethodName)) ∈ lw_all := lw_g (lw_at lw_m1 174 rfl) rfl
theorem q296 : (Jvm.Cond.classLink "FigureKnee$Pier" (15 : Nat) "java/util/ArrayList") ∈ lw_all := lw_g (lw_at lw_m1 175 rfl) rfl
theorem q297 : (Jvm.Cond.methodLink "FigureKnee$Pier" (17 : Nat) ({ cls := "java/util/ArrayList", name := "<init>", desc := "()V" } : Jvm.MethodName)) ∈ lw_all := lw_g (lw_at lw_m1 176 rfl) rfl
theorem q298 : (Jvm.Cond.fieldLink "FigureKnee$Pier" (9 : Nat) "FigureKnee$Pier" "words" "I") ∈ lw_all := lw_g (lw_at lw_m1 177 rfl) rfl
theorem q307 : (Jvm.Cond.fieldLink "FigureKnee$Pier" (18 : Nat) "FigureKnee$Pier" "pairs" "Ljava/util/ArrayList;") ∈ lw_all := lw_g (lw_at lw_m1 186 rfl) rfl
theorem q311 : (Jvm.Cond.fieldLink "FigureKnee$Pier" (22 : Nat) "FigureKnee$Pier" "debts" "Ljava/util/ArrayList;") ∈ lw_all := lw_g (lw_at lw_m1 190 rfl) rfl
theorem q315 : (Jvm.Cond.fieldLink "FigureKnee$Pier" (25 : Nat) "FigureKnee$Pier" "heard" "Ljava/util/ArrayList;") ∈ lw_all := lw_g (lw_at lw_m1 194 rfl) rfl
theorem q318 : (Jvm.Cond.fieldLink "FigureKnee$Pier" (28 : Nat) "FigureKnee$Pier" "unsure" "[I") ∈ lw_all := lw_g (lw_at lw_m1 197 rfl) rfl
theorem q321 : (Jvm.Cond.lays "FigureKnee$Pier" "FigureKnee$Pier" "words" "I") ∈ lw_all := lw_g (lw_at lw_m1 200 rfl) rfl
theorem q322 : (Jvm.Cond.soleField "FigureKnee$Pier" "words") ∈ lw_all := lw_g (lw_at lw_m1 201 rfl) rfl
theorem q323 : (Jvm.Cond.lays "FigureKnee$Pier" "FigureKnee$Pier" "dumb" "I") ∈ lw_all := lw_g (lw_at lw_m1 202 rfl) rfl
theorem q324 : (Jvm.Cond.soleField "FigureKnee$Pier" "dumb") ∈ lw_all := lw_g (lw_at lw_m1 203 rfl) rfl
theorem q325 : (Jvm.Cond.lays "FigureKnee$Pier" "FigureKnee$Pier" "contracts" "I") ∈ lw_all := lw_g (lw_at lw_m1 204 rfl) rfl
theorem q326 : (Jvm.Cond.soleField "FigureKnee$Pier" "contracts") ∈ lw_all := lw_g (lw_at lw_m1 205 rfl) rfl
theorem q327 : (Jvm.Cond.lays "FigureKnee$Pier" "FigureKnee$Pier" "unsures" "I") ∈ lw_all := lw_g (lw_at lw_m1 206 rfl) rfl
theorem q328 : (Jvm.Cond.soleField "FigureKnee$Pier" "unsures") ∈ lw_all := lw_g (lw_at lw_m1 207 rfl) rfl
theorem q329 : (Jvm.Cond.laysFinal "FigureKnee$Pier" "FigureKnee$Pier" "pairs" "Ljava/util/ArrayList;") ∈ lw_all := lw_g (lw_at lw_m1 208 rfl) rfl
theorem q330 : (Jvm.Cond.soleField "FigureKnee$Pier" "pairs") ∈ lw_all := lw_g (lw_at lw_m1 209 rfl) rfl
theorem q331 : (Jvm.Cond.laysFinal "FigureKnee$Pier" "FigureKnee$Pier" "debts" "Ljava/util/ArrayList;") ∈ lw_all := lw_g (lw_at lw_m1 210 rfl) rfl
theorem q332 : (Jvm.Cond.soleField "FigureKnee$Pier" "debts") ∈ lw_all := lw_g (lw_at lw_m1 211 rfl) rfl
theorem q333 : (Jvm.Cond.laysFinal "FigureKnee$Pier" "FigureKnee$Pier" "heard" "Ljava/util/ArrayList;") ∈ lw_all := lw_g (lw_at lw_m1 212 rfl) rfl
theorem q334 : (Jvm.Cond.soleField "FigureKnee$Pier" "heard") ∈ lw_all := lw_g (lw_at lw_m1 213 rfl) rfl
theorem q335 : (Jvm.Cond.laysFinal "FigureKnee$Pier" "FigureKnee$Pier" "unsure" "[I") ∈ lw_all := lw_g (lw_at lw_m1 214 rfl) rfl
theorem q336 : (Jvm.Cond.soleField "FigureKnee$Pier" "unsure") ∈ lw_all := lw_g (lw_at lw_m1 215 rfl) rfl
theorem q337 : (Jvm.Cond.superclass "FigureKnee$Pier" "java/lang/Object") ∈ lw_all := lw_g (lw_at lw_m1 216 rfl) rfl
theorem q718 : (Jvm.Cond.instanceMethod ({ cls := "FigureKnee$Pier", name := "find", desc := "(Ljava/lang/String;)I" } : Jvm.MethodName)) ∈ lw_all := lw_g (lw_at lw_m3 117 rfl) rfl
theorem q719 : (Jvm.Cond.selects "FigureKnee$Pier" ({ cls := "FigureKnee$Pier", name := "find", desc := "(Ljava/lang/String;)I" } : Jvm.MethodName) ({ cls := "FigureKnee$Pier", name := "find", desc := "(Ljava/lang/String;)I" } : Jvm.MethodName)) ∈ lw_all := lw_g (lw_at lw_m3 118 rfl) rfl
theorem q720 : (Jvm.Cond.code ({ cls := "FigureKnee$Pier", name := "find", desc := "(Ljava/lang/String;)I" } : Jvm.MethodName) prog_9_method_2_code (3 : Nat) (Option.some Jvm.ClassFile.FieldType.int)) ∈ lw_all := lw_g (lw_at lw_m3 119 rfl) rfl
theorem q721 : (Jvm.Cond.methodLink "FigureKnee$Pier" (32 : Nat) ({ cls := "java/util/ArrayList", name := "size", desc := "()I" } : Jvm.MethodName)) ∈ lw_all := lw_g (lw_at lw_m3 120 rfl) rfl
theorem q722 : (Jvm.Cond.methodLink "FigureKnee$Pier" (36 : Nat) ({ cls := "java/util/ArrayList", name := "get", desc := "(I)Ljava/lang/Object;" } : Jvm.MethodName)) ∈ lw_all := lw_g (lw_at lw_m3 121 rfl) rfl
theorem q734 : (Jvm.Cond.classLink "FigureKnee$Pier" (40 : Nat) "FigureKnee$Pair") ∈ lw_all := lw_g (lw_at lw_m3 133 rfl) rfl
theorem q735 : (Jvm.Cond.methodLink "FigureKnee$Pier" (46 : Nat) ({ cls := "java/lang/String", name := "equals", desc := "(Ljava/lang/Object;)Z" } : Jvm.MethodName)) ∈ lw_all := lw_g (lw_at lw_m3 134 rfl) rfl
theorem q743 : (Jvm.Cond.fieldLink "FigureKnee$Pier" (42 : Nat) "FigureKnee$Pair" "name" "Ljava/lang/String;") ∈ lw_all := lw_g (lw_at lw_m3 142 rfl) rfl
theorem q850 : (Jvm.Cond.selects "FigureKnee$Pier" ({ cls := "java/lang/Object", name := "getClass", desc := "()Ljava/lang/Class;" } : Jvm.MethodName) ({ cls := "java/lang/Object", name := "getClass", desc := "()Ljava/lang/Class;" } : Jvm.MethodName)) ∈ lw_all := lw_g (lw_at lw_m4 9 rfl) rfl
theorem q890 : (Jvm.Cond.instanceMethod ({ cls := "FigureKnee$Pier", name := "isOwed", desc := "(II)Z" } : Jvm.MethodName)) ∈ lw_all := lw_g (lw_at lw_m4 49 rfl) rfl
theorem q891 : (Jvm.Cond.selects "FigureKnee$Pier" ({ cls := "FigureKnee$Pier", name := "isOwed", desc := "(II)Z" } : Jvm.MethodName) ({ cls := "FigureKnee$Pier", name := "isOwed", desc := "(II)Z" } : Jvm.MethodName)) ∈ lw_all := lw_g (lw_at lw_m4 50 rfl) rfl
theorem q892 : (Jvm.Cond.code ({ cls := "FigureKnee$Pier", name := "isOwed", desc := "(II)Z" } : Jvm.MethodName) prog_9_method_3_code (4 : Nat) (Option.some Jvm.ClassFile.FieldType.boolean)) ∈ lw_all := lw_g (lw_at lw_m4 51 rfl) rfl
theorem q893 : (Jvm.Cond.classLink "FigureKnee$Pier" (52 : Nat) "FigureKnee$Debt") ∈ lw_all := lw_g (lw_at lw_m4 52 rfl) rfl
theorem q902 : (Jvm.Cond.fieldLink "FigureKnee$Pier" (54 : Nat) "FigureKnee$Debt" "from" "I") ∈ lw_all := lw_g (lw_at lw_m4 61 rfl) rfl
theorem q905 : (Jvm.Cond.fieldLink "FigureKnee$Pier" (57 : Nat) "FigureKnee$Debt" "to" "I") ∈ lw_all := lw_g (lw_at lw_m4 64 rfl) rfl
theorem q925 : (Jvm.Cond.instanceMethod ({ cls := "FigureKnee$Pier", name := "isHeard", desc := "(II)Z" } : Jvm.MethodName)) ∈ lw_all := lw_g (lw_at lw_m4 84 rfl) rfl
theorem q926 : (Jvm.Cond.selects "FigureKnee$Pier" ({ cls := "FigureKnee$Pier", name := "isHeard", desc := "(II)Z" } : Jvm.MethodName) ({ cls := "FigureKnee$Pier", name := "isHeard", desc := "(II)Z" } : Jvm.MethodName)) ∈ lw_all := lw_g (lw_at lw_m4 85 rfl) rfl
theorem q927 : (Jvm.Cond.code ({ cls := "FigureKnee$Pier", name := "isHeard", desc := "(II)Z" } : Jvm.MethodName) prog_9_method_4_code (4 : Nat) (Option.some Jvm.ClassFile.FieldType.boolean)) ∈ lw_all := lw_g (lw_at lw_m4 86 rfl) rfl
theorem q928 : (Jvm.Cond.classLink "FigureKnee$Pier" (60 : Nat) "FigureKnee$Heard") ∈ lw_all := lw_g (lw_at lw_m4 87 rfl) rfl
theorem q936 : (Jvm.Cond.fieldLink "FigureKnee$Pier" (62 : Nat) "FigureKnee$Heard" "pair" "I") ∈ lw_all := lw_g (lw_at lw_m4 95 rfl) rfl
theorem q939 : (Jvm.Cond.fieldLink "FigureKnee$Pier" (65 : Nat) "FigureKnee$Heard" "season" "I") ∈ lw_all := lw_g (lw_at lw_m4 98 rfl) rfl
theorem q2202 : (Jvm.Cond.castable "FigureKnee$Pier" "java/lang/Object") ∈ lw_tbl := lw_at lw_m9 161 rfl
theorem in_X5 : ∀ w ∈ wsX50, w ∈ lw_all := lw_in wsX50 [321, 323, 325, 327, 329, 331, 333, 335] (by decide +kernel) (by decide +kernel)

/-! FigureKnee$Token -/
set_option maxRecDepth 100000
def RX6 : String := "FigureKnee$Token"
def TX6 : u_T := fun k => match k with
  | 0 => ("FigureKnee$Token", "sort", "I", true)
  | 1 => ("FigureKnee$Token", "place", "I", true)
  | 2 => ("FigureKnee$Token", "number", "I", true)
  | _ => ("FigureKnee$Token", "word", "Ljava/lang/String;", true)
def tyX6 : Nat → FieldType := fun k => match k with
  | 0 => .int
  | 1 => .int
  | 2 => .int
  | _ => .object "java/lang/String"
abbrev wsX60 : List Cond := u_ws RX6 TX6 4
theorem nmX6 : ∀ a, a < 4 → ∀ b, b < 4 → a ≠ b → (TX6 a).2.1 ≠ (TX6 b).2.1 := by decide +kernel
theorem tyX6_ok : ∀ k, k < 4 → parseFieldDescriptor (TX6 k).2.2.1 = some (tyX6 k) := by decide +kernel
abbrev cX6_init : ByteArray := prog_13_method_1_code
def yX6_init : MethodName := ⟨RX6, "<init>", "(IIILjava/lang/String;)V"⟩
def dkwX6_init_1 : List UInt8 := [181, 0, 19, 177]
abbrev dktX6_init_1 : List UInt8 := dkwX6_init_1 ++ []
def dkwX6_init_0 : List UInt8 := [42, 183, 0, 1, 42, 27, 181, 0, 7, 42, 28, 181, 0, 13, 42, 29, 181, 0, 16, 42, 25, 4]
abbrev dktX6_init_0 : List UInt8 := dkwX6_init_0 ++ dktX6_init_1
theorem dksX6_init_0 : cX6_init.data.toList.drop 0 = dktX6_init_0 := by decide +kernel
theorem dksX6_init_1 : cX6_init.data.toList.drop 22 = dktX6_init_1 := dk_seg dksX6_init_0 22 rfl rfl
theorem dX6_init_0 : decode cX6_init 0 = .ok (.aload_n 0, 1) := dk_42 (dk_at dksX6_init_0 0 rfl rfl)
theorem dX6_init_1 : decode cX6_init 1 = .ok (.invokespecial 1, 3) := dk_183 0 1 (dk_at dksX6_init_0 1 rfl rfl)
theorem dX6_init_4 : decode cX6_init 4 = .ok (.aload_n 0, 1) := dk_42 (dk_at dksX6_init_0 4 rfl rfl)
theorem dX6_init_5 : decode cX6_init 5 = .ok (.iload_n 1, 1) := dk_27 (dk_at dksX6_init_0 5 rfl rfl)
theorem dX6_init_6 : decode cX6_init 6 = .ok (.putfield 7, 3) := dk_181 0 7 (dk_at dksX6_init_0 6 rfl rfl)
theorem dX6_init_9 : decode cX6_init 9 = .ok (.aload_n 0, 1) := dk_42 (dk_at dksX6_init_0 9 rfl rfl)
theorem dX6_init_10 : decode cX6_init 10 = .ok (.iload_n 2, 1) := dk_28 (dk_at dksX6_init_0 10 rfl rfl)
theorem dX6_init_11 : decode cX6_init 11 = .ok (.putfield 13, 3) := dk_181 0 13 (dk_at dksX6_init_0 11 rfl rfl)
theorem dX6_init_14 : decode cX6_init 14 = .ok (.aload_n 0, 1) := dk_42 (dk_at dksX6_init_0 14 rfl rfl)
theorem dX6_init_15 : decode cX6_init 15 = .ok (.iload_n 3, 1) := dk_29 (dk_at dksX6_init_0 15 rfl rfl)
theorem dX6_init_16 : decode cX6_init 16 = .ok (.putfield 16, 3) := dk_181 0 16 (dk_at dksX6_init_0 16 rfl rfl)
theorem dX6_init_19 : decode cX6_init 19 = .ok (.aload_n 0, 1) := dk_42 (dk_at dksX6_init_0 19 rfl rfl)
theorem dX6_init_20 : decode cX6_init 20 = .ok (.aload 4, 2) := dk_25 4 (dk_at dksX6_init_0 20 rfl rfl)
theorem dX6_init_22 : decode cX6_init 22 = .ok (.putfield 19, 3) := dk_181 0 19 (dk_at dksX6_init_1 0 rfl rfl)
theorem dX6_init_25 : decode cX6_init 25 = .ok (.return_, 1) := dk_177 (dk_at dksX6_init_1 3 rfl rfl)
abbrev cX6_is : ByteArray := prog_13_method_2_code
def yX6_is : MethodName := ⟨RX6, "is", "(Ljava/lang/String;)Z"⟩
def dkwX6_is_1 : List UInt8 := [172]
abbrev dktX6_is_1 : List UInt8 := dkwX6_is_1 ++ []
def dkwX6_is_0 : List UInt8 := [42, 180, 0, 7, 5, 160, 0, 18, 42, 180, 0, 19, 43, 182, 0, 23, 153, 0, 7, 4, 167, 0, 4, 3]
abbrev dktX6_is_0 : List UInt8 := dkwX6_is_0 ++ dktX6_is_1
theorem dksX6_is_0 : cX6_is.data.toList.drop 0 = dktX6_is_0 := by decide +kernel
theorem dksX6_is_1 : cX6_is.data.toList.drop 24 = dktX6_is_1 := dk_seg dksX6_is_0 24 rfl rfl
theorem dX6_is_0 : decode cX6_is 0 = .ok (.aload_n 0, 1) := dk_42 (dk_at dksX6_is_0 0 rfl rfl)
theorem dX6_is_1 : decode cX6_is 1 = .ok (.getfield 7, 3) := dk_180 0 7 (dk_at dksX6_is_0 1 rfl rfl)
theorem dX6_is_4 : decode cX6_is 4 = .ok (.iconst 2, 1) := dk_5 (dk_at dksX6_is_0 4 rfl rfl)
theorem dX6_is_5 : decode cX6_is 5 = .ok (.if_icmp .ne 18, 3) := dk_160 0 18 (dk_at dksX6_is_0 5 rfl rfl)
theorem dX6_is_8 : decode cX6_is 8 = .ok (.aload_n 0, 1) := dk_42 (dk_at dksX6_is_0 8 rfl rfl)
theorem dX6_is_9 : decode cX6_is 9 = .ok (.getfield 19, 3) := dk_180 0 19 (dk_at dksX6_is_0 9 rfl rfl)
theorem dX6_is_12 : decode cX6_is 12 = .ok (.aload_n 1, 1) := dk_43 (dk_at dksX6_is_0 12 rfl rfl)
theorem dX6_is_13 : decode cX6_is 13 = .ok (.invokevirtual 23, 3) := dk_182 0 23 (dk_at dksX6_is_0 13 rfl rfl)
theorem dX6_is_16 : decode cX6_is 16 = .ok (.ifCond .eq 7, 3) := dk_153 0 7 (dk_at dksX6_is_0 16 rfl rfl)
theorem dX6_is_19 : decode cX6_is 19 = .ok (.iconst 1, 1) := dk_4 (dk_at dksX6_is_0 19 rfl rfl)
theorem dX6_is_20 : decode cX6_is 20 = .ok (.goto 4, 3) := dk_167 0 4 (dk_at dksX6_is_0 20 rfl rfl)
theorem dX6_is_23 : decode cX6_is 23 = .ok (.iconst 0, 1) := dk_3 (dk_at dksX6_is_0 23 rfl rfl)
theorem dX6_is_24 : decode cX6_is 24 = .ok (.ireturn, 1) := dk_172 (dk_at dksX6_is_1 0 rfl rfl)
abbrev cX6_isName : ByteArray := prog_13_method_3_code
def yX6_isName : MethodName := ⟨RX6, "isName", "()Z"⟩
def dkwX6_isName_7 : List UInt8 := [3, 172, 4, 172]
abbrev dktX6_isName_7 : List UInt8 := dkwX6_isName_7 ++ []
def dkwX6_isName_6 : List UInt8 := [170, 0, 0, 0, 0, 40, 0, 0, 0, 0, 0, 0, 0, 5, 0, 0, 0, 38, 0, 0, 0, 38, 0, 0, 0, 38, 0, 0, 0, 38, 0, 0, 0, 38, 0, 0, 0, 38]
abbrev dktX6_isName_6 : List UInt8 := dkwX6_isName_6 ++ dktX6_isName_7
def dkwX6_isName_5 : List UInt8 := [18, 43, 182, 0, 23, 153, 0, 5, 8, 61, 28]
abbrev dktX6_isName_5 : List UInt8 := dkwX6_isName_5 ++ dktX6_isName_6
def dkwX6_isName_4 : List UInt8 := [153, 0, 33, 6, 61, 167, 0, 28, 43, 18, 41, 182, 0, 23, 153, 0, 19, 7, 61, 167, 0, 14, 43]
abbrev dktX6_isName_4 : List UInt8 := dkwX6_isName_4 ++ dktX6_isName_5
def dkwX6_isName_3 : List UInt8 := [61, 167, 0, 56, 43, 18, 37, 182, 0, 23, 153, 0, 47, 5, 61, 167, 0, 42, 43, 18, 39, 182, 0, 23]
abbrev dktX6_isName_3 : List UInt8 := dkwX6_isName_3 ++ dktX6_isName_4
def dkwX6_isName_2 : List UInt8 := [43, 18, 33, 182, 0, 23, 153, 0, 75, 3, 61, 167, 0, 70, 43, 18, 35, 182, 0, 23, 153, 0, 61, 4]
abbrev dktX6_isName_2 : List UInt8 := dkwX6_isName_2 ++ dktX6_isName_3
def dkwX6_isName_1 : List UInt8 := [171, 0, 0, 0, 0, 0, 140, 0, 0, 0, 6, 205, 235, 38, 46, 0, 0, 0, 115, 222, 53, 17, 18, 0, 0, 0, 87, 0, 46, 252, 147, 0, 0, 0, 101, 0, 52, 98, 218, 0, 0, 0, 73, 0, 52, 128, 102, 0, 0, 0, 59, 5, 232, 240, 54, 0, 0, 0, 129]
abbrev dktX6_isName_1 : List UInt8 := dkwX6_isName_1 ++ dktX6_isName_2
def dkwX6_isName_0 : List UInt8 := [42, 180, 0, 7, 5, 159, 0, 5, 3, 172, 42, 180, 0, 19, 76, 2, 61, 43, 182, 0, 29]
abbrev dktX6_isName_0 : List UInt8 := dkwX6_isName_0 ++ dktX6_isName_1
theorem dksX6_isName_0 : cX6_isName.data.toList.drop 0 = dktX6_isName_0 := by decide +kernel
theorem dksX6_isName_1 : cX6_isName.data.toList.drop 21 = dktX6_isName_1 := dk_seg dksX6_isName_0 21 rfl rfl
theorem dksX6_isName_2 : cX6_isName.data.toList.drop 80 = dktX6_isName_2 := dk_seg dksX6_isName_1 59 rfl rfl
theorem dksX6_isName_3 : cX6_isName.data.toList.drop 104 = dktX6_isName_3 := dk_seg dksX6_isName_2 24 rfl rfl
theorem dksX6_isName_4 : cX6_isName.data.toList.drop 128 = dktX6_isName_4 := dk_seg dksX6_isName_3 24 rfl rfl
theorem dksX6_isName_5 : cX6_isName.data.toList.drop 151 = dktX6_isName_5 := dk_seg dksX6_isName_4 23 rfl rfl
theorem dksX6_isName_6 : cX6_isName.data.toList.drop 162 = dktX6_isName_6 := dk_seg dksX6_isName_5 11 rfl rfl
theorem dksX6_isName_7 : cX6_isName.data.toList.drop 200 = dktX6_isName_7 := dk_seg dksX6_isName_6 38 rfl rfl
theorem dX6_isName_0 : decode cX6_isName 0 = .ok (.aload_n 0, 1) := dk_42 (dk_at dksX6_isName_0 0 rfl rfl)
theorem dX6_isName_1 : decode cX6_isName 1 = .ok (.getfield 7, 3) := dk_180 0 7 (dk_at dksX6_isName_0 1 rfl rfl)
theorem dX6_isName_4 : decode cX6_isName 4 = .ok (.iconst 2, 1) := dk_5 (dk_at dksX6_isName_0 4 rfl rfl)
theorem dX6_isName_5 : decode cX6_isName 5 = .ok (.if_icmp .eq 5, 3) := dk_159 0 5 (dk_at dksX6_isName_0 5 rfl rfl)
theorem dX6_isName_8 : decode cX6_isName 8 = .ok (.iconst 0, 1) := dk_3 (dk_at dksX6_isName_0 8 rfl rfl)
theorem dX6_isName_9 : decode cX6_isName 9 = .ok (.ireturn, 1) := dk_172 (dk_at dksX6_isName_0 9 rfl rfl)
theorem dX6_isName_10 : decode cX6_isName 10 = .ok (.aload_n 0, 1) := dk_42 (dk_at dksX6_isName_0 10 rfl rfl)
theorem dX6_isName_11 : decode cX6_isName 11 = .ok (.getfield 19, 3) := dk_180 0 19 (dk_at dksX6_isName_0 11 rfl rfl)
theorem dX6_isName_14 : decode cX6_isName 14 = .ok (.astore_n 1, 1) := dk_76 (dk_at dksX6_isName_0 14 rfl rfl)
theorem dX6_isName_15 : decode cX6_isName 15 = .ok (.iconst (-1), 1) := dk_2 (dk_at dksX6_isName_0 15 rfl rfl)
theorem dX6_isName_16 : decode cX6_isName 16 = .ok (.istore_n 2, 1) := dk_61 (dk_at dksX6_isName_0 16 rfl rfl)
theorem dX6_isName_17 : decode cX6_isName 17 = .ok (.aload_n 1, 1) := dk_43 (dk_at dksX6_isName_0 17 rfl rfl)
theorem dX6_isName_18 : decode cX6_isName 18 = .ok (.invokevirtual 29, 3) := dk_182 0 29 (dk_at dksX6_isName_0 18 rfl rfl)
theorem dX6_isName_21 : decode cX6_isName 21 = .ok (.lookupswitch 140 #[(-840227282, 115), (-566947566, 87), (3079315, 101), (3433178, 73), (3440742, 59), (99151926, 129)], 59) := by decide +kernel
theorem dX6_isName_80 : decode cX6_isName 80 = .ok (.aload_n 1, 1) := dk_43 (dk_at dksX6_isName_2 0 rfl rfl)
theorem dX6_isName_81 : decode cX6_isName 81 = .ok (.ldc 33, 2) := dk_18 33 (dk_at dksX6_isName_2 1 rfl rfl)
theorem dX6_isName_83 : decode cX6_isName 83 = .ok (.invokevirtual 23, 3) := dk_182 0 23 (dk_at dksX6_isName_2 3 rfl rfl)
theorem dX6_isName_86 : decode cX6_isName 86 = .ok (.ifCond .eq 75, 3) := dk_153 0 75 (dk_at dksX6_isName_2 6 rfl rfl)
theorem dX6_isName_89 : decode cX6_isName 89 = .ok (.iconst 0, 1) := dk_3 (dk_at dksX6_isName_2 9 rfl rfl)
theorem dX6_isName_90 : decode cX6_isName 90 = .ok (.istore_n 2, 1) := dk_61 (dk_at dksX6_isName_2 10 rfl rfl)
theorem dX6_isName_91 : decode cX6_isName 91 = .ok (.goto 70, 3) := dk_167 0 70 (dk_at dksX6_isName_2 11 rfl rfl)
theorem dX6_isName_94 : decode cX6_isName 94 = .ok (.aload_n 1, 1) := dk_43 (dk_at dksX6_isName_2 14 rfl rfl)
theorem dX6_isName_95 : decode cX6_isName 95 = .ok (.ldc 35, 2) := dk_18 35 (dk_at dksX6_isName_2 15 rfl rfl)
theorem dX6_isName_97 : decode cX6_isName 97 = .ok (.invokevirtual 23, 3) := dk_182 0 23 (dk_at dksX6_isName_2 17 rfl rfl)
theorem dX6_isName_100 : decode cX6_isName 100 = .ok (.ifCond .eq 61, 3) := dk_153 0 61 (dk_at dksX6_isName_2 20 rfl rfl)
theorem dX6_isName_103 : decode cX6_isName 103 = .ok (.iconst 1, 1) := dk_4 (dk_at dksX6_isName_2 23 rfl rfl)
theorem dX6_isName_104 : decode cX6_isName 104 = .ok (.istore_n 2, 1) := dk_61 (dk_at dksX6_isName_3 0 rfl rfl)
theorem dX6_isName_105 : decode cX6_isName 105 = .ok (.goto 56, 3) := dk_167 0 56 (dk_at dksX6_isName_3 1 rfl rfl)
theorem dX6_isName_108 : decode cX6_isName 108 = .ok (.aload_n 1, 1) := dk_43 (dk_at dksX6_isName_3 4 rfl rfl)
theorem dX6_isName_109 : decode cX6_isName 109 = .ok (.ldc 37, 2) := dk_18 37 (dk_at dksX6_isName_3 5 rfl rfl)
theorem dX6_isName_111 : decode cX6_isName 111 = .ok (.invokevirtual 23, 3) := dk_182 0 23 (dk_at dksX6_isName_3 7 rfl rfl)
theorem dX6_isName_114 : decode cX6_isName 114 = .ok (.ifCond .eq 47, 3) := dk_153 0 47 (dk_at dksX6_isName_3 10 rfl rfl)
theorem dX6_isName_117 : decode cX6_isName 117 = .ok (.iconst 2, 1) := dk_5 (dk_at dksX6_isName_3 13 rfl rfl)
theorem dX6_isName_118 : decode cX6_isName 118 = .ok (.istore_n 2, 1) := dk_61 (dk_at dksX6_isName_3 14 rfl rfl)
theorem dX6_isName_119 : decode cX6_isName 119 = .ok (.goto 42, 3) := dk_167 0 42 (dk_at dksX6_isName_3 15 rfl rfl)
theorem dX6_isName_122 : decode cX6_isName 122 = .ok (.aload_n 1, 1) := dk_43 (dk_at dksX6_isName_3 18 rfl rfl)
theorem dX6_isName_123 : decode cX6_isName 123 = .ok (.ldc 39, 2) := dk_18 39 (dk_at dksX6_isName_3 19 rfl rfl)
theorem dX6_isName_125 : decode cX6_isName 125 = .ok (.invokevirtual 23, 3) := dk_182 0 23 (dk_at dksX6_isName_3 21 rfl rfl)
theorem dX6_isName_128 : decode cX6_isName 128 = .ok (.ifCond .eq 33, 3) := dk_153 0 33 (dk_at dksX6_isName_4 0 rfl rfl)
theorem dX6_isName_131 : decode cX6_isName 131 = .ok (.iconst 3, 1) := dk_6 (dk_at dksX6_isName_4 3 rfl rfl)
theorem dX6_isName_132 : decode cX6_isName 132 = .ok (.istore_n 2, 1) := dk_61 (dk_at dksX6_isName_4 4 rfl rfl)
theorem dX6_isName_133 : decode cX6_isName 133 = .ok (.goto 28, 3) := dk_167 0 28 (dk_at dksX6_isName_4 5 rfl rfl)
theorem dX6_isName_136 : decode cX6_isName 136 = .ok (.aload_n 1, 1) := dk_43 (dk_at dksX6_isName_4 8 rfl rfl)
theorem dX6_isName_137 : decode cX6_isName 137 = .ok (.ldc 41, 2) := dk_18 41 (dk_at dksX6_isName_4 9 rfl rfl)
theorem dX6_isName_139 : decode cX6_isName 139 = .ok (.invokevirtual 23, 3) := dk_182 0 23 (dk_at dksX6_isName_4 11 rfl rfl)
theorem dX6_isName_142 : decode cX6_isName 142 = .ok (.ifCond .eq 19, 3) := dk_153 0 19 (dk_at dksX6_isName_4 14 rfl rfl)
theorem dX6_isName_145 : decode cX6_isName 145 = .ok (.iconst 4, 1) := dk_7 (dk_at dksX6_isName_4 17 rfl rfl)
theorem dX6_isName_146 : decode cX6_isName 146 = .ok (.istore_n 2, 1) := dk_61 (dk_at dksX6_isName_4 18 rfl rfl)
theorem dX6_isName_147 : decode cX6_isName 147 = .ok (.goto 14, 3) := dk_167 0 14 (dk_at dksX6_isName_4 19 rfl rfl)
theorem dX6_isName_150 : decode cX6_isName 150 = .ok (.aload_n 1, 1) := dk_43 (dk_at dksX6_isName_4 22 rfl rfl)
theorem dX6_isName_151 : decode cX6_isName 151 = .ok (.ldc 43, 2) := dk_18 43 (dk_at dksX6_isName_5 0 rfl rfl)
theorem dX6_isName_153 : decode cX6_isName 153 = .ok (.invokevirtual 23, 3) := dk_182 0 23 (dk_at dksX6_isName_5 2 rfl rfl)
theorem dX6_isName_156 : decode cX6_isName 156 = .ok (.ifCond .eq 5, 3) := dk_153 0 5 (dk_at dksX6_isName_5 5 rfl rfl)
theorem dX6_isName_159 : decode cX6_isName 159 = .ok (.iconst 5, 1) := dk_8 (dk_at dksX6_isName_5 8 rfl rfl)
theorem dX6_isName_160 : decode cX6_isName 160 = .ok (.istore_n 2, 1) := dk_61 (dk_at dksX6_isName_5 9 rfl rfl)
theorem dX6_isName_161 : decode cX6_isName 161 = .ok (.iload_n 2, 1) := dk_28 (dk_at dksX6_isName_5 10 rfl rfl)
theorem dX6_isName_162 : decode cX6_isName 162 = .ok (.tableswitch 40 0 5 #[38, 38, 38, 38, 38, 38], 38) := by decide +kernel
theorem dX6_isName_200 : decode cX6_isName 200 = .ok (.iconst 0, 1) := dk_3 (dk_at dksX6_isName_7 0 rfl rfl)
theorem dX6_isName_201 : decode cX6_isName 201 = .ok (.ireturn, 1) := dk_172 (dk_at dksX6_isName_7 1 rfl rfl)
theorem dX6_isName_202 : decode cX6_isName 202 = .ok (.iconst 1, 1) := dk_4 (dk_at dksX6_isName_7 2 rfl rfl)
theorem dX6_isName_203 : decode cX6_isName 203 = .ok (.ireturn, 1) := dk_172 (dk_at dksX6_isName_7 3 rfl rfl)
theorem q130 : (Jvm.Cond.initialized "FigureKnee$Token") ∈ lw_all := lw_g (lw_at lw_m1 9 rfl) rfl
theorem q347 : (Jvm.Cond.instantiable "FigureKnee$Token" (4 : Nat)) ∈ lw_all := lw_g (lw_at lw_m1 226 rfl) rfl
theorem q350 : (Jvm.Cond.instanceMethod ({ cls := "FigureKnee$Token", name := "<init>", desc := "(IIILjava/lang/String;)V" } : Jvm.MethodName)) ∈ lw_all := lw_g (lw_at lw_m1 229 rfl) rfl
theorem q351 : (Jvm.Cond.code ({ cls := "FigureKnee$Token", name := "<init>", desc := "(IIILjava/lang/String;)V" } : Jvm.MethodName) prog_13_method_1_code (5 : Nat) (Option.none : Option Jvm.ClassFile.FieldType)) ∈ lw_all := lw_g (lw_at lw_m1 230 rfl) rfl
theorem q352 : (Jvm.Cond.methodLink "FigureKnee$Token" (1 : Nat) ({ cls := "java/lang/Object", name := "<init>", desc := "()V" } : Jvm.MethodName)) ∈ lw_all := lw_g (lw_at lw_m1 231 rfl) rfl
theorem q353 : (Jvm.Cond.fieldLink "FigureKnee$Token" (7 : Nat) "FigureKnee$Token" "sort" "I") ∈ lw_all := lw_g (lw_at lw_m1 232 rfl) rfl
theorem q355 : (Jvm.Cond.fieldLink "FigureKnee$Token" (13 : Nat) "FigureKnee$Token" "place" "I") ∈ lw_all := lw_g (lw_at lw_m1 234 rfl) rfl
theorem q357 : (Jvm.Cond.fieldLink "FigureKnee$Token" (16 : Nat) "FigureKnee$Token" "number" "I") ∈ lw_all := lw_g (lw_at lw_m1 236 rfl) rfl
theorem q359 : (Jvm.Cond.fieldLink "FigureKnee$Token" (19 : Nat) "FigureKnee$Token" "word" "Ljava/lang/String;") ∈ lw_all := lw_g (lw_at lw_m1 238 rfl) rfl
theorem q361 : (Jvm.Cond.laysFinal "FigureKnee$Token" "FigureKnee$Token" "sort" "I") ∈ lw_all := lw_g (lw_at lw_m2 0 rfl) rfl
theorem q362 : (Jvm.Cond.soleField "FigureKnee$Token" "sort") ∈ lw_all := lw_g (lw_at lw_m2 1 rfl) rfl
theorem q363 : (Jvm.Cond.laysFinal "FigureKnee$Token" "FigureKnee$Token" "place" "I") ∈ lw_all := lw_g (lw_at lw_m2 2 rfl) rfl
theorem q364 : (Jvm.Cond.soleField "FigureKnee$Token" "place") ∈ lw_all := lw_g (lw_at lw_m2 3 rfl) rfl
theorem q365 : (Jvm.Cond.laysFinal "FigureKnee$Token" "FigureKnee$Token" "number" "I") ∈ lw_all := lw_g (lw_at lw_m2 4 rfl) rfl
theorem q366 : (Jvm.Cond.soleField "FigureKnee$Token" "number") ∈ lw_all := lw_g (lw_at lw_m2 5 rfl) rfl
theorem q367 : (Jvm.Cond.laysFinal "FigureKnee$Token" "FigureKnee$Token" "word" "Ljava/lang/String;") ∈ lw_all := lw_g (lw_at lw_m2 6 rfl) rfl
theorem q368 : (Jvm.Cond.soleField "FigureKnee$Token" "word") ∈ lw_all := lw_g (lw_at lw_m2 7 rfl) rfl
theorem q369 : (Jvm.Cond.superclass "FigureKnee$Token" "java/lang/Object") ∈ lw_all := lw_g (lw_at lw_m2 8 rfl) rfl
theorem q680 : (Jvm.Cond.instanceMethod ({ cls := "FigureKnee$Token", name := "is", desc := "(Ljava/lang/String;)Z" } : Jvm.MethodName)) ∈ lw_all := lw_g (lw_at lw_m3 79 rfl) rfl
theorem q681 : (Jvm.Cond.selects "FigureKnee$Token" ({ cls := "FigureKnee$Token", name := "is", desc := "(Ljava/lang/String;)Z" } : Jvm.MethodName) ({ cls := "FigureKnee$Token", name := "is", desc := "(Ljava/lang/String;)Z" } : Jvm.MethodName)) ∈ lw_all := lw_g (lw_at lw_m3 80 rfl) rfl
theorem q682 : (Jvm.Cond.code ({ cls := "FigureKnee$Token", name := "is", desc := "(Ljava/lang/String;)Z" } : Jvm.MethodName) prog_13_method_2_code (2 : Nat) (Option.some Jvm.ClassFile.FieldType.boolean)) ∈ lw_all := lw_g (lw_at lw_m3 81 rfl) rfl
theorem q683 : (Jvm.Cond.methodLink "FigureKnee$Token" (23 : Nat) ({ cls := "java/lang/String", name := "equals", desc := "(Ljava/lang/Object;)Z" } : Jvm.MethodName)) ∈ lw_all := lw_g (lw_at lw_m3 82 rfl) rfl
theorem q707 : (Jvm.Cond.instanceMethod ({ cls := "FigureKnee$Token", name := "isName", desc := "()Z" } : Jvm.MethodName)) ∈ lw_all := lw_g (lw_at lw_m3 106 rfl) rfl
theorem q708 : (Jvm.Cond.selects "FigureKnee$Token" ({ cls := "FigureKnee$Token", name := "isName", desc := "()Z" } : Jvm.MethodName) ({ cls := "FigureKnee$Token", name := "isName", desc := "()Z" } : Jvm.MethodName)) ∈ lw_all := lw_g (lw_at lw_m3 107 rfl) rfl
theorem q709 : (Jvm.Cond.code ({ cls := "FigureKnee$Token", name := "isName", desc := "()Z" } : Jvm.MethodName) prog_13_method_3_code (3 : Nat) (Option.some Jvm.ClassFile.FieldType.boolean)) ∈ lw_all := lw_g (lw_at lw_m3 108 rfl) rfl
theorem q710 : (Jvm.Cond.methodLink "FigureKnee$Token" (29 : Nat) ({ cls := "java/lang/String", name := "hashCode", desc := "()I" } : Jvm.MethodName)) ∈ lw_all := lw_g (lw_at lw_m3 109 rfl) rfl
theorem q711 : (Jvm.Cond.stringRef "FigureKnee$Token" (33 : Nat) "pier") ∈ lw_tbl := lw_at lw_m3 110 rfl
theorem q712 : (Jvm.Cond.stringRef "FigureKnee$Token" (35 : Nat) "pair") ∈ lw_tbl := lw_at lw_m3 111 rfl
theorem q713 : (Jvm.Cond.stringRef "FigureKnee$Token" (37 : Nat) "contract") ∈ lw_tbl := lw_at lw_m3 112 rfl
theorem q714 : (Jvm.Cond.stringRef "FigureKnee$Token" (39 : Nat) "debt") ∈ lw_tbl := lw_at lw_m3 113 rfl
theorem q715 : (Jvm.Cond.stringRef "FigureKnee$Token" (41 : Nat) "unsure") ∈ lw_tbl := lw_at lw_m3 114 rfl
theorem q716 : (Jvm.Cond.stringRef "FigureKnee$Token" (43 : Nat) "heard") ∈ lw_tbl := lw_at lw_m3 115 rfl
theorem q854 : (Jvm.Cond.selects "FigureKnee$Token" ({ cls := "java/lang/Object", name := "getClass", desc := "()Ljava/lang/Class;" } : Jvm.MethodName) ({ cls := "java/lang/Object", name := "getClass", desc := "()Ljava/lang/Class;" } : Jvm.MethodName)) ∈ lw_all := lw_g (lw_at lw_m4 13 rfl) rfl
theorem q2203 : (Jvm.Cond.castable "FigureKnee$Token" "java/lang/Object") ∈ lw_tbl := lw_at lw_m9 162 rfl
theorem in_X6 : ∀ w ∈ wsX60, w ∈ lw_all := lw_in wsX60 [361, 363, 365, 367] (by decide +kernel) (by decide +kernel)

/-! FigureKnee$Pair -/
set_option maxRecDepth 100000
def RX7 : String := "FigureKnee$Pair"
def TX7 : u_T := fun k => match k with
  | 0 => ("FigureKnee$Pair", "name", "Ljava/lang/String;", true)
  | 1 => ("FigureKnee$Pair", "law", "LFigureKnee$Law;", false)
  | 2 => ("FigureKnee$Pair", "said", "I", false)
  | 3 => ("FigureKnee$Pair", "step", "I", false)
  | 4 => ("FigureKnee$Pair", "every", "I", false)
  | 5 => ("FigureKnee$Pair", "other", "I", false)
  | _ => ("FigureKnee$Pair", "unsure", "Z", false)
def tyX7 : Nat → FieldType := fun k => match k with
  | 0 => .object "java/lang/String"
  | 1 => .object "FigureKnee$Law"
  | 2 => .int
  | 3 => .int
  | 4 => .int
  | 5 => .int
  | _ => .boolean
abbrev wsX70 : List Cond := u_ws RX7 TX7 7
theorem nmX7 : ∀ a, a < 7 → ∀ b, b < 7 → a ≠ b → (TX7 a).2.1 ≠ (TX7 b).2.1 := by decide +kernel
theorem tyX7_ok : ∀ k, k < 7 → parseFieldDescriptor (TX7 k).2.2.1 = some (tyX7 k) := by decide +kernel
abbrev cX7_init : ByteArray := prog_8_method_1_code
def yX7_init : MethodName := ⟨RX7, "<init>", "(Ljava/lang/String;)V"⟩
def dkwX7_init_0 : List UInt8 := [42, 183, 0, 1, 42, 43, 181, 0, 7, 177]
abbrev dktX7_init_0 : List UInt8 := dkwX7_init_0 ++ []
theorem dksX7_init_0 : cX7_init.data.toList.drop 0 = dktX7_init_0 := by decide +kernel
theorem dX7_init_0 : decode cX7_init 0 = .ok (.aload_n 0, 1) := dk_42 (dk_at dksX7_init_0 0 rfl rfl)
theorem dX7_init_1 : decode cX7_init 1 = .ok (.invokespecial 1, 3) := dk_183 0 1 (dk_at dksX7_init_0 1 rfl rfl)
theorem dX7_init_4 : decode cX7_init 4 = .ok (.aload_n 0, 1) := dk_42 (dk_at dksX7_init_0 4 rfl rfl)
theorem dX7_init_5 : decode cX7_init 5 = .ok (.aload_n 1, 1) := dk_43 (dk_at dksX7_init_0 5 rfl rfl)
theorem dX7_init_6 : decode cX7_init 6 = .ok (.putfield 7, 3) := dk_181 0 7 (dk_at dksX7_init_0 6 rfl rfl)
theorem dX7_init_9 : decode cX7_init 9 = .ok (.return_, 1) := dk_177 (dk_at dksX7_init_0 9 rfl rfl)
theorem q142 : (Jvm.Cond.initialized "FigureKnee$Pair") ∈ lw_all := lw_g (lw_at lw_m1 21 rfl) rfl
theorem q737 : (Jvm.Cond.instantiable "FigureKnee$Pair" (7 : Nat)) ∈ lw_all := lw_g (lw_at lw_m3 136 rfl) rfl
theorem q739 : (Jvm.Cond.instanceMethod ({ cls := "FigureKnee$Pair", name := "<init>", desc := "(Ljava/lang/String;)V" } : Jvm.MethodName)) ∈ lw_all := lw_g (lw_at lw_m3 138 rfl) rfl
theorem q740 : (Jvm.Cond.code ({ cls := "FigureKnee$Pair", name := "<init>", desc := "(Ljava/lang/String;)V" } : Jvm.MethodName) prog_8_method_1_code (2 : Nat) (Option.none : Option Jvm.ClassFile.FieldType)) ∈ lw_all := lw_g (lw_at lw_m3 139 rfl) rfl
theorem q741 : (Jvm.Cond.methodLink "FigureKnee$Pair" (1 : Nat) ({ cls := "java/lang/Object", name := "<init>", desc := "()V" } : Jvm.MethodName)) ∈ lw_all := lw_g (lw_at lw_m3 140 rfl) rfl
theorem q742 : (Jvm.Cond.fieldLink "FigureKnee$Pair" (7 : Nat) "FigureKnee$Pair" "name" "Ljava/lang/String;") ∈ lw_all := lw_g (lw_at lw_m3 141 rfl) rfl
theorem q757 : (Jvm.Cond.laysFinal "FigureKnee$Pair" "FigureKnee$Pair" "name" "Ljava/lang/String;") ∈ lw_all := lw_g (lw_at lw_m3 156 rfl) rfl
theorem q758 : (Jvm.Cond.soleField "FigureKnee$Pair" "name") ∈ lw_all := lw_g (lw_at lw_m3 157 rfl) rfl
theorem q759 : (Jvm.Cond.lays "FigureKnee$Pair" "FigureKnee$Pair" "law" "LFigureKnee$Law;") ∈ lw_all := lw_g (lw_at lw_m3 158 rfl) rfl
theorem q760 : (Jvm.Cond.soleField "FigureKnee$Pair" "law") ∈ lw_all := lw_g (lw_at lw_m3 159 rfl) rfl
theorem q761 : (Jvm.Cond.lays "FigureKnee$Pair" "FigureKnee$Pair" "said" "I") ∈ lw_all := lw_g (lw_at lw_m3 160 rfl) rfl
theorem q762 : (Jvm.Cond.soleField "FigureKnee$Pair" "said") ∈ lw_all := lw_g (lw_at lw_m3 161 rfl) rfl
theorem q763 : (Jvm.Cond.lays "FigureKnee$Pair" "FigureKnee$Pair" "step" "I") ∈ lw_all := lw_g (lw_at lw_m3 162 rfl) rfl
theorem q764 : (Jvm.Cond.soleField "FigureKnee$Pair" "step") ∈ lw_all := lw_g (lw_at lw_m3 163 rfl) rfl
theorem q765 : (Jvm.Cond.lays "FigureKnee$Pair" "FigureKnee$Pair" "every" "I") ∈ lw_all := lw_g (lw_at lw_m3 164 rfl) rfl
theorem q766 : (Jvm.Cond.soleField "FigureKnee$Pair" "every") ∈ lw_all := lw_g (lw_at lw_m3 165 rfl) rfl
theorem q767 : (Jvm.Cond.lays "FigureKnee$Pair" "FigureKnee$Pair" "other" "I") ∈ lw_all := lw_g (lw_at lw_m3 166 rfl) rfl
theorem q768 : (Jvm.Cond.soleField "FigureKnee$Pair" "other") ∈ lw_all := lw_g (lw_at lw_m3 167 rfl) rfl
theorem q769 : (Jvm.Cond.lays "FigureKnee$Pair" "FigureKnee$Pair" "unsure" "Z") ∈ lw_all := lw_g (lw_at lw_m3 168 rfl) rfl
theorem q770 : (Jvm.Cond.soleField "FigureKnee$Pair" "unsure") ∈ lw_all := lw_g (lw_at lw_m3 169 rfl) rfl
theorem q771 : (Jvm.Cond.superclass "FigureKnee$Pair" "java/lang/Object") ∈ lw_all := lw_g (lw_at lw_m3 170 rfl) rfl
theorem q849 : (Jvm.Cond.selects "FigureKnee$Pair" ({ cls := "java/lang/Object", name := "getClass", desc := "()Ljava/lang/Class;" } : Jvm.MethodName) ({ cls := "java/lang/Object", name := "getClass", desc := "()Ljava/lang/Class;" } : Jvm.MethodName)) ∈ lw_all := lw_g (lw_at lw_m4 8 rfl) rfl
theorem q2207 : (Jvm.Cond.castable "FigureKnee$Pair" "java/lang/Object") ∈ lw_tbl := lw_at lw_m9 166 rfl
theorem in_X7 : ∀ w ∈ wsX70, w ∈ lw_all := lw_in wsX70 [757, 759, 761, 763, 765, 767, 769] (by decide +kernel) (by decide +kernel)

/-! FigureKnee$Law -/
set_option maxRecDepth 100000
def RX8 : String := "FigureKnee$Law"
abbrev cX8_init : ByteArray := prog_6_method_1_code
def yX8_init : MethodName := ⟨RX8, "<init>", "(I)V"⟩
def dkwX8_init_0 : List UInt8 := [42, 183, 0, 1, 42, 27, 181, 0, 7, 177]
abbrev dktX8_init_0 : List UInt8 := dkwX8_init_0 ++ []
theorem dksX8_init_0 : cX8_init.data.toList.drop 0 = dktX8_init_0 := by decide +kernel
theorem dX8_init_0 : decode cX8_init 0 = .ok (.aload_n 0, 1) := dk_42 (dk_at dksX8_init_0 0 rfl rfl)
theorem dX8_init_1 : decode cX8_init 1 = .ok (.invokespecial 1, 3) := dk_183 0 1 (dk_at dksX8_init_0 1 rfl rfl)
theorem dX8_init_4 : decode cX8_init 4 = .ok (.aload_n 0, 1) := dk_42 (dk_at dksX8_init_0 4 rfl rfl)
theorem dX8_init_5 : decode cX8_init 5 = .ok (.iload_n 1, 1) := dk_27 (dk_at dksX8_init_0 5 rfl rfl)
theorem dX8_init_6 : decode cX8_init 6 = .ok (.putfield 7, 3) := dk_181 0 7 (dk_at dksX8_init_0 6 rfl rfl)
theorem dX8_init_9 : decode cX8_init 9 = .ok (.return_, 1) := dk_177 (dk_at dksX8_init_0 9 rfl rfl)
abbrev cX8_next : ByteArray := prog_6_method_3_code
def yX8_next : MethodName := ⟨RX8, "next", "(III)I"⟩
def dkwX8_next_0 : List UInt8 := [3, 29, 42, 27, 28, 29, 182, 0, 13, 184, 0, 17, 184, 0, 23, 172]
abbrev dktX8_next_0 : List UInt8 := dkwX8_next_0 ++ []
theorem dksX8_next_0 : cX8_next.data.toList.drop 0 = dktX8_next_0 := by decide +kernel
theorem dX8_next_0 : decode cX8_next 0 = .ok (.iconst 0, 1) := dk_3 (dk_at dksX8_next_0 0 rfl rfl)
theorem dX8_next_1 : decode cX8_next 1 = .ok (.iload_n 3, 1) := dk_29 (dk_at dksX8_next_0 1 rfl rfl)
theorem dX8_next_2 : decode cX8_next 2 = .ok (.aload_n 0, 1) := dk_42 (dk_at dksX8_next_0 2 rfl rfl)
theorem dX8_next_3 : decode cX8_next 3 = .ok (.iload_n 1, 1) := dk_27 (dk_at dksX8_next_0 3 rfl rfl)
theorem dX8_next_4 : decode cX8_next 4 = .ok (.iload_n 2, 1) := dk_28 (dk_at dksX8_next_0 4 rfl rfl)
theorem dX8_next_5 : decode cX8_next 5 = .ok (.iload_n 3, 1) := dk_29 (dk_at dksX8_next_0 5 rfl rfl)
theorem dX8_next_6 : decode cX8_next 6 = .ok (.invokevirtual 13, 3) := dk_182 0 13 (dk_at dksX8_next_0 6 rfl rfl)
theorem dX8_next_9 : decode cX8_next 9 = .ok (.invokestatic 17, 3) := dk_184 0 17 (dk_at dksX8_next_0 9 rfl rfl)
theorem dX8_next_12 : decode cX8_next 12 = .ok (.invokestatic 23, 3) := dk_184 0 23 (dk_at dksX8_next_0 12 rfl rfl)
theorem dX8_next_15 : decode cX8_next 15 = .ok (.ireturn, 1) := dk_172 (dk_at dksX8_next_0 15 rfl rfl)
theorem q143 : (Jvm.Cond.initialized "FigureKnee$Law") ∈ lw_all := lw_g (lw_at lw_m1 22 rfl) rfl
theorem q786 : (Jvm.Cond.instanceMethod ({ cls := "FigureKnee$Law", name := "<init>", desc := "(I)V" } : Jvm.MethodName)) ∈ lw_all := lw_g (lw_at lw_m3 185 rfl) rfl
theorem q787 : (Jvm.Cond.code ({ cls := "FigureKnee$Law", name := "<init>", desc := "(I)V" } : Jvm.MethodName) prog_6_method_1_code (2 : Nat) (Option.none : Option Jvm.ClassFile.FieldType)) ∈ lw_all := lw_g (lw_at lw_m3 186 rfl) rfl
theorem q788 : (Jvm.Cond.methodLink "FigureKnee$Law" (1 : Nat) ({ cls := "java/lang/Object", name := "<init>", desc := "()V" } : Jvm.MethodName)) ∈ lw_all := lw_g (lw_at lw_m3 187 rfl) rfl
theorem q789 : (Jvm.Cond.fieldLink "FigureKnee$Law" (7 : Nat) "FigureKnee$Law" "number" "I") ∈ lw_all := lw_g (lw_at lw_m3 188 rfl) rfl
theorem q792 : (Jvm.Cond.soleField "FigureKnee$Law" "number") ∈ lw_all := lw_g (lw_at lw_m3 191 rfl) rfl
theorem q1056 : (Jvm.Cond.instanceMethod ({ cls := "FigureKnee$Law", name := "next", desc := "(III)I" } : Jvm.MethodName)) ∈ lw_all := lw_g (lw_at lw_m4 215 rfl) rfl
theorem q1057 : (Jvm.Cond.sameMethod "FigureKnee$Law" "FigureKnee$Law" "next" "(III)I") ∈ lw_all := lw_g (lw_at lw_m4 216 rfl) rfl
theorem q1062 : (Jvm.Cond.code ({ cls := "FigureKnee$Law", name := "next", desc := "(III)I" } : Jvm.MethodName) prog_6_method_3_code (4 : Nat) (Option.some Jvm.ClassFile.FieldType.int)) ∈ lw_all := lw_g (lw_at lw_m4 221 rfl) rfl
theorem q1063 : (Jvm.Cond.methodLink "FigureKnee$Law" (13 : Nat) ({ cls := "FigureKnee$Law", name := "then", desc := "(III)I" } : Jvm.MethodName)) ∈ lw_all := lw_g (lw_at lw_m4 222 rfl) rfl
theorem q1064 : (Jvm.Cond.declares ({ cls := "FigureKnee$Law", name := "then", desc := "(III)I" } : Jvm.MethodName)) ∈ lw_tbl := lw_at lw_m4 223 rfl
theorem q1065 : (Jvm.Cond.sameMethod "FigureKnee$Law" "FigureKnee$Law" "then" "(III)I") ∈ lw_all := lw_g (lw_at lw_m4 224 rfl) rfl
theorem q1081 : (Jvm.Cond.methodLink "FigureKnee$Law" (17 : Nat) ({ cls := "java/lang/Math", name := "min", desc := "(II)I" } : Jvm.MethodName)) ∈ lw_all := lw_g (lw_at lw_m5 0 rfl) rfl
theorem q1082 : (Jvm.Cond.methodLink "FigureKnee$Law" (23 : Nat) ({ cls := "java/lang/Math", name := "max", desc := "(II)I" } : Jvm.MethodName)) ∈ lw_all := lw_g (lw_at lw_m5 1 rfl) rfl

/-! FigureKnee$Creeping -/
set_option maxRecDepth 100000
def RX9 : String := "FigureKnee$Creeping"
def TX9 : u_T := fun k => match k with
  | _ => ("FigureKnee$Law", "number", "I", true)
def tyX9 : Nat → FieldType := fun k => match k with
  | _ => .int
abbrev wsX90 : List Cond := u_ws RX9 TX9 1
theorem nmX9 : ∀ a, a < 1 → ∀ b, b < 1 → a ≠ b → (TX9 a).2.1 ≠ (TX9 b).2.1 := by decide +kernel
theorem tyX9_ok : ∀ k, k < 1 → parseFieldDescriptor (TX9 k).2.2.1 = some (tyX9 k) := by decide +kernel
abbrev cX9_init : ByteArray := prog_2_method_1_code
def yX9_init : MethodName := ⟨RX9, "<init>", "(I)V"⟩
def dkwX9_init_0 : List UInt8 := [42, 27, 183, 0, 1, 177]
abbrev dktX9_init_0 : List UInt8 := dkwX9_init_0 ++ []
theorem dksX9_init_0 : cX9_init.data.toList.drop 0 = dktX9_init_0 := by decide +kernel
theorem dX9_init_0 : decode cX9_init 0 = .ok (.aload_n 0, 1) := dk_42 (dk_at dksX9_init_0 0 rfl rfl)
theorem dX9_init_1 : decode cX9_init 1 = .ok (.iload_n 1, 1) := dk_27 (dk_at dksX9_init_0 1 rfl rfl)
theorem dX9_init_2 : decode cX9_init 2 = .ok (.invokespecial 1, 3) := dk_183 0 1 (dk_at dksX9_init_0 2 rfl rfl)
theorem dX9_init_5 : decode cX9_init 5 = .ok (.return_, 1) := dk_177 (dk_at dksX9_init_0 5 rfl rfl)
abbrev cX9_then : ByteArray := prog_2_method_2_code
def yX9_then : MethodName := ⟨RX9, "then", "(III)I"⟩
def dkwX9_then_0 : List UInt8 := [27, 28, 96, 172]
abbrev dktX9_then_0 : List UInt8 := dkwX9_then_0 ++ []
theorem dksX9_then_0 : cX9_then.data.toList.drop 0 = dktX9_then_0 := by decide +kernel
theorem dX9_then_0 : decode cX9_then 0 = .ok (.iload_n 1, 1) := dk_27 (dk_at dksX9_then_0 0 rfl rfl)
theorem dX9_then_1 : decode cX9_then 1 = .ok (.iload_n 2, 1) := dk_28 (dk_at dksX9_then_0 1 rfl rfl)
theorem dX9_then_2 : decode cX9_then 2 = .ok (.iadd, 1) := dk_96 (dk_at dksX9_then_0 2 rfl rfl)
theorem dX9_then_3 : decode cX9_then 3 = .ok (.ireturn, 1) := dk_172 (dk_at dksX9_then_0 3 rfl rfl)
theorem q144 : (Jvm.Cond.initialized "FigureKnee$Creeping") ∈ lw_all := lw_g (lw_at lw_m1 23 rfl) rfl
theorem q781 : (Jvm.Cond.instantiable "FigureKnee$Creeping" (1 : Nat)) ∈ lw_all := lw_g (lw_at lw_m3 180 rfl) rfl
theorem q783 : (Jvm.Cond.instanceMethod ({ cls := "FigureKnee$Creeping", name := "<init>", desc := "(I)V" } : Jvm.MethodName)) ∈ lw_all := lw_g (lw_at lw_m3 182 rfl) rfl
theorem q784 : (Jvm.Cond.code ({ cls := "FigureKnee$Creeping", name := "<init>", desc := "(I)V" } : Jvm.MethodName) prog_2_method_1_code (2 : Nat) (Option.none : Option Jvm.ClassFile.FieldType)) ∈ lw_all := lw_g (lw_at lw_m3 183 rfl) rfl
theorem q785 : (Jvm.Cond.methodLink "FigureKnee$Creeping" (1 : Nat) ({ cls := "FigureKnee$Law", name := "<init>", desc := "(I)V" } : Jvm.MethodName)) ∈ lw_all := lw_g (lw_at lw_m3 184 rfl) rfl
theorem q791 : (Jvm.Cond.laysFinal "FigureKnee$Creeping" "FigureKnee$Law" "number" "I") ∈ lw_all := lw_g (lw_at lw_m3 190 rfl) rfl
theorem q793 : (Jvm.Cond.superclass "FigureKnee$Creeping" "FigureKnee$Law") ∈ lw_all := lw_g (lw_at lw_m3 192 rfl) rfl
theorem q844 : (Jvm.Cond.selects "FigureKnee$Creeping" ({ cls := "java/lang/Object", name := "getClass", desc := "()Ljava/lang/Class;" } : Jvm.MethodName) ({ cls := "java/lang/Object", name := "getClass", desc := "()Ljava/lang/Class;" } : Jvm.MethodName)) ∈ lw_all := lw_g (lw_at lw_m4 3 rfl) rfl
theorem q1058 : (Jvm.Cond.selects "FigureKnee$Creeping" ({ cls := "FigureKnee$Law", name := "next", desc := "(III)I" } : Jvm.MethodName) ({ cls := "FigureKnee$Law", name := "next", desc := "(III)I" } : Jvm.MethodName)) ∈ lw_all := lw_g (lw_at lw_m4 217 rfl) rfl
theorem q1066 : (Jvm.Cond.selects "FigureKnee$Creeping" ({ cls := "FigureKnee$Law", name := "then", desc := "(III)I" } : Jvm.MethodName) ({ cls := "FigureKnee$Creeping", name := "then", desc := "(III)I" } : Jvm.MethodName)) ∈ lw_all := lw_g (lw_at lw_m4 225 rfl) rfl
theorem q1067 : (Jvm.Cond.instanceMethod ({ cls := "FigureKnee$Creeping", name := "then", desc := "(III)I" } : Jvm.MethodName)) ∈ lw_all := lw_g (lw_at lw_m4 226 rfl) rfl
theorem q1068 : (Jvm.Cond.code ({ cls := "FigureKnee$Creeping", name := "then", desc := "(III)I" } : Jvm.MethodName) prog_2_method_2_code (4 : Nat) (Option.some Jvm.ClassFile.FieldType.int)) ∈ lw_all := lw_g (lw_at lw_m4 227 rfl) rfl
theorem q2194 : (Jvm.Cond.sameMethod "FigureKnee$Creeping" "FigureKnee$Creeping" "then" "(III)I") ∈ lw_all := lw_g (lw_at lw_m9 153 rfl) rfl
theorem q2208 : (Jvm.Cond.castable "FigureKnee$Creeping" "java/lang/Object") ∈ lw_tbl := lw_at lw_m9 167 rfl
theorem in_X9 : ∀ w ∈ wsX90, w ∈ lw_all := lw_in wsX90 [791] (by decide +kernel) (by decide +kernel)

/-! FigureKnee$Leaping -/
set_option maxRecDepth 100000
def RX10 : String := "FigureKnee$Leaping"
def TX10 : u_T := fun k => match k with
  | _ => ("FigureKnee$Law", "number", "I", true)
def tyX10 : Nat → FieldType := fun k => match k with
  | _ => .int
abbrev wsX100 : List Cond := u_ws RX10 TX10 1
theorem nmX10 : ∀ a, a < 1 → ∀ b, b < 1 → a ≠ b → (TX10 a).2.1 ≠ (TX10 b).2.1 := by decide +kernel
theorem tyX10_ok : ∀ k, k < 1 → parseFieldDescriptor (TX10 k).2.2.1 = some (tyX10 k) := by decide +kernel
abbrev cX10_init : ByteArray := prog_7_method_1_code
def yX10_init : MethodName := ⟨RX10, "<init>", "()V"⟩
def dkwX10_init_0 : List UInt8 := [42, 4, 183, 0, 1, 177]
abbrev dktX10_init_0 : List UInt8 := dkwX10_init_0 ++ []
theorem dksX10_init_0 : cX10_init.data.toList.drop 0 = dktX10_init_0 := by decide +kernel
theorem dX10_init_0 : decode cX10_init 0 = .ok (.aload_n 0, 1) := dk_42 (dk_at dksX10_init_0 0 rfl rfl)
theorem dX10_init_1 : decode cX10_init 1 = .ok (.iconst 1, 1) := dk_4 (dk_at dksX10_init_0 1 rfl rfl)
theorem dX10_init_2 : decode cX10_init 2 = .ok (.invokespecial 1, 3) := dk_183 0 1 (dk_at dksX10_init_0 2 rfl rfl)
theorem dX10_init_5 : decode cX10_init 5 = .ok (.return_, 1) := dk_177 (dk_at dksX10_init_0 5 rfl rfl)
abbrev cX10_then : ByteArray := prog_7_method_2_code
def yX10_then : MethodName := ⟨RX10, "then", "(III)I"⟩
def dkwX10_then_0 : List UInt8 := [42, 5, 27, 104, 28, 29, 183, 0, 7, 172]
abbrev dktX10_then_0 : List UInt8 := dkwX10_then_0 ++ []
theorem dksX10_then_0 : cX10_then.data.toList.drop 0 = dktX10_then_0 := by decide +kernel
theorem dX10_then_0 : decode cX10_then 0 = .ok (.aload_n 0, 1) := dk_42 (dk_at dksX10_then_0 0 rfl rfl)
theorem dX10_then_1 : decode cX10_then 1 = .ok (.iconst 2, 1) := dk_5 (dk_at dksX10_then_0 1 rfl rfl)
theorem dX10_then_2 : decode cX10_then 2 = .ok (.iload_n 1, 1) := dk_27 (dk_at dksX10_then_0 2 rfl rfl)
theorem dX10_then_3 : decode cX10_then 3 = .ok (.imul, 1) := dk_104 (dk_at dksX10_then_0 3 rfl rfl)
theorem dX10_then_4 : decode cX10_then 4 = .ok (.iload_n 2, 1) := dk_28 (dk_at dksX10_then_0 4 rfl rfl)
theorem dX10_then_5 : decode cX10_then 5 = .ok (.iload_n 3, 1) := dk_29 (dk_at dksX10_then_0 5 rfl rfl)
theorem dX10_then_6 : decode cX10_then 6 = .ok (.invokespecial 7, 3) := dk_183 0 7 (dk_at dksX10_then_0 6 rfl rfl)
theorem dX10_then_9 : decode cX10_then 9 = .ok (.ireturn, 1) := dk_172 (dk_at dksX10_then_0 9 rfl rfl)
theorem q145 : (Jvm.Cond.initialized "FigureKnee$Leaping") ∈ lw_all := lw_g (lw_at lw_m1 24 rfl) rfl
theorem q795 : (Jvm.Cond.instantiable "FigureKnee$Leaping" (1 : Nat)) ∈ lw_all := lw_g (lw_at lw_m3 194 rfl) rfl
theorem q797 : (Jvm.Cond.instanceMethod ({ cls := "FigureKnee$Leaping", name := "<init>", desc := "()V" } : Jvm.MethodName)) ∈ lw_all := lw_g (lw_at lw_m3 196 rfl) rfl
theorem q798 : (Jvm.Cond.code ({ cls := "FigureKnee$Leaping", name := "<init>", desc := "()V" } : Jvm.MethodName) prog_7_method_1_code (1 : Nat) (Option.none : Option Jvm.ClassFile.FieldType)) ∈ lw_all := lw_g (lw_at lw_m3 197 rfl) rfl
theorem q799 : (Jvm.Cond.methodLink "FigureKnee$Leaping" (1 : Nat) ({ cls := "FigureKnee$Creeping", name := "<init>", desc := "(I)V" } : Jvm.MethodName)) ∈ lw_all := lw_g (lw_at lw_m3 198 rfl) rfl
theorem q800 : (Jvm.Cond.laysFinal "FigureKnee$Leaping" "FigureKnee$Law" "number" "I") ∈ lw_all := lw_g (lw_at lw_m3 199 rfl) rfl
theorem q801 : (Jvm.Cond.superclass "FigureKnee$Leaping" "FigureKnee$Creeping") ∈ lw_all := lw_g (lw_at lw_m3 200 rfl) rfl
theorem q848 : (Jvm.Cond.selects "FigureKnee$Leaping" ({ cls := "java/lang/Object", name := "getClass", desc := "()Ljava/lang/Class;" } : Jvm.MethodName) ({ cls := "java/lang/Object", name := "getClass", desc := "()Ljava/lang/Class;" } : Jvm.MethodName)) ∈ lw_all := lw_g (lw_at lw_m4 7 rfl) rfl
theorem q1060 : (Jvm.Cond.selects "FigureKnee$Leaping" ({ cls := "FigureKnee$Law", name := "next", desc := "(III)I" } : Jvm.MethodName) ({ cls := "FigureKnee$Law", name := "next", desc := "(III)I" } : Jvm.MethodName)) ∈ lw_all := lw_g (lw_at lw_m4 219 rfl) rfl
theorem q1073 : (Jvm.Cond.selects "FigureKnee$Leaping" ({ cls := "FigureKnee$Law", name := "then", desc := "(III)I" } : Jvm.MethodName) ({ cls := "FigureKnee$Leaping", name := "then", desc := "(III)I" } : Jvm.MethodName)) ∈ lw_all := lw_g (lw_at lw_m4 232 rfl) rfl
theorem q1074 : (Jvm.Cond.instanceMethod ({ cls := "FigureKnee$Leaping", name := "then", desc := "(III)I" } : Jvm.MethodName)) ∈ lw_all := lw_g (lw_at lw_m4 233 rfl) rfl
theorem q1075 : (Jvm.Cond.code ({ cls := "FigureKnee$Leaping", name := "then", desc := "(III)I" } : Jvm.MethodName) prog_7_method_2_code (4 : Nat) (Option.some Jvm.ClassFile.FieldType.int)) ∈ lw_all := lw_g (lw_at lw_m4 234 rfl) rfl
theorem q1076 : (Jvm.Cond.methodLink "FigureKnee$Leaping" (7 : Nat) ({ cls := "FigureKnee$Creeping", name := "then", desc := "(III)I" } : Jvm.MethodName)) ∈ lw_all := lw_g (lw_at lw_m4 235 rfl) rfl
theorem q2209 : (Jvm.Cond.castable "FigureKnee$Leaping" "java/lang/Object") ∈ lw_tbl := lw_at lw_m9 168 rfl
theorem in_X10 : ∀ w ∈ wsX100, w ∈ lw_all := lw_in wsX100 [800] (by decide +kernel) (by decide +kernel)

/-! FigureKnee$Fading -/
set_option maxRecDepth 100000
def RX11 : String := "FigureKnee$Fading"
def TX11 : u_T := fun k => match k with
  | _ => ("FigureKnee$Law", "number", "I", true)
def tyX11 : Nat → FieldType := fun k => match k with
  | _ => .int
abbrev wsX110 : List Cond := u_ws RX11 TX11 1
theorem nmX11 : ∀ a, a < 1 → ∀ b, b < 1 → a ≠ b → (TX11 a).2.1 ≠ (TX11 b).2.1 := by decide +kernel
theorem tyX11_ok : ∀ k, k < 1 → parseFieldDescriptor (TX11 k).2.2.1 = some (tyX11 k) := by decide +kernel
abbrev cX11_init : ByteArray := prog_4_method_1_code
def yX11_init : MethodName := ⟨RX11, "<init>", "()V"⟩
def dkwX11_init_0 : List UInt8 := [42, 5, 183, 0, 1, 177]
abbrev dktX11_init_0 : List UInt8 := dkwX11_init_0 ++ []
theorem dksX11_init_0 : cX11_init.data.toList.drop 0 = dktX11_init_0 := by decide +kernel
theorem dX11_init_0 : decode cX11_init 0 = .ok (.aload_n 0, 1) := dk_42 (dk_at dksX11_init_0 0 rfl rfl)
theorem dX11_init_1 : decode cX11_init 1 = .ok (.iconst 2, 1) := dk_5 (dk_at dksX11_init_0 1 rfl rfl)
theorem dX11_init_2 : decode cX11_init 2 = .ok (.invokespecial 1, 3) := dk_183 0 1 (dk_at dksX11_init_0 2 rfl rfl)
theorem dX11_init_5 : decode cX11_init 5 = .ok (.return_, 1) := dk_177 (dk_at dksX11_init_0 5 rfl rfl)
abbrev cX11_then : ByteArray := prog_4_method_2_code
def yX11_then : MethodName := ⟨RX11, "then", "(III)I"⟩
def dkwX11_then_0 : List UInt8 := [42, 27, 28, 116, 29, 183, 0, 7, 172]
abbrev dktX11_then_0 : List UInt8 := dkwX11_then_0 ++ []
theorem dksX11_then_0 : cX11_then.data.toList.drop 0 = dktX11_then_0 := by decide +kernel
theorem dX11_then_0 : decode cX11_then 0 = .ok (.aload_n 0, 1) := dk_42 (dk_at dksX11_then_0 0 rfl rfl)
theorem dX11_then_1 : decode cX11_then 1 = .ok (.iload_n 1, 1) := dk_27 (dk_at dksX11_then_0 1 rfl rfl)
theorem dX11_then_2 : decode cX11_then 2 = .ok (.iload_n 2, 1) := dk_28 (dk_at dksX11_then_0 2 rfl rfl)
theorem dX11_then_3 : decode cX11_then 3 = .ok (.ineg, 1) := dk_116 (dk_at dksX11_then_0 3 rfl rfl)
theorem dX11_then_4 : decode cX11_then 4 = .ok (.iload_n 3, 1) := dk_29 (dk_at dksX11_then_0 4 rfl rfl)
theorem dX11_then_5 : decode cX11_then 5 = .ok (.invokespecial 7, 3) := dk_183 0 7 (dk_at dksX11_then_0 5 rfl rfl)
theorem dX11_then_8 : decode cX11_then 8 = .ok (.ireturn, 1) := dk_172 (dk_at dksX11_then_0 8 rfl rfl)
theorem q146 : (Jvm.Cond.initialized "FigureKnee$Fading") ∈ lw_all := lw_g (lw_at lw_m1 25 rfl) rfl
theorem q803 : (Jvm.Cond.instantiable "FigureKnee$Fading" (1 : Nat)) ∈ lw_all := lw_g (lw_at lw_m3 202 rfl) rfl
theorem q805 : (Jvm.Cond.instanceMethod ({ cls := "FigureKnee$Fading", name := "<init>", desc := "()V" } : Jvm.MethodName)) ∈ lw_all := lw_g (lw_at lw_m3 204 rfl) rfl
theorem q806 : (Jvm.Cond.code ({ cls := "FigureKnee$Fading", name := "<init>", desc := "()V" } : Jvm.MethodName) prog_4_method_1_code (1 : Nat) (Option.none : Option Jvm.ClassFile.FieldType)) ∈ lw_all := lw_g (lw_at lw_m3 205 rfl) rfl
theorem q807 : (Jvm.Cond.methodLink "FigureKnee$Fading" (1 : Nat) ({ cls := "FigureKnee$Creeping", name := "<init>", desc := "(I)V" } : Jvm.MethodName)) ∈ lw_all := lw_g (lw_at lw_m3 206 rfl) rfl
theorem q808 : (Jvm.Cond.laysFinal "FigureKnee$Fading" "FigureKnee$Law" "number" "I") ∈ lw_all := lw_g (lw_at lw_m3 207 rfl) rfl
theorem q809 : (Jvm.Cond.superclass "FigureKnee$Fading" "FigureKnee$Creeping") ∈ lw_all := lw_g (lw_at lw_m3 208 rfl) rfl
theorem q846 : (Jvm.Cond.selects "FigureKnee$Fading" ({ cls := "java/lang/Object", name := "getClass", desc := "()Ljava/lang/Class;" } : Jvm.MethodName) ({ cls := "java/lang/Object", name := "getClass", desc := "()Ljava/lang/Class;" } : Jvm.MethodName)) ∈ lw_all := lw_g (lw_at lw_m4 5 rfl) rfl
theorem q1059 : (Jvm.Cond.selects "FigureKnee$Fading" ({ cls := "FigureKnee$Law", name := "next", desc := "(III)I" } : Jvm.MethodName) ({ cls := "FigureKnee$Law", name := "next", desc := "(III)I" } : Jvm.MethodName)) ∈ lw_all := lw_g (lw_at lw_m4 218 rfl) rfl
theorem q1069 : (Jvm.Cond.selects "FigureKnee$Fading" ({ cls := "FigureKnee$Law", name := "then", desc := "(III)I" } : Jvm.MethodName) ({ cls := "FigureKnee$Fading", name := "then", desc := "(III)I" } : Jvm.MethodName)) ∈ lw_all := lw_g (lw_at lw_m4 228 rfl) rfl
theorem q1070 : (Jvm.Cond.instanceMethod ({ cls := "FigureKnee$Fading", name := "then", desc := "(III)I" } : Jvm.MethodName)) ∈ lw_all := lw_g (lw_at lw_m4 229 rfl) rfl
theorem q1071 : (Jvm.Cond.code ({ cls := "FigureKnee$Fading", name := "then", desc := "(III)I" } : Jvm.MethodName) prog_4_method_2_code (4 : Nat) (Option.some Jvm.ClassFile.FieldType.int)) ∈ lw_all := lw_g (lw_at lw_m4 230 rfl) rfl
theorem q1072 : (Jvm.Cond.methodLink "FigureKnee$Fading" (7 : Nat) ({ cls := "FigureKnee$Creeping", name := "then", desc := "(III)I" } : Jvm.MethodName)) ∈ lw_all := lw_g (lw_at lw_m4 231 rfl) rfl
theorem q2210 : (Jvm.Cond.castable "FigureKnee$Fading" "java/lang/Object") ∈ lw_tbl := lw_at lw_m9 169 rfl
theorem in_X11 : ∀ w ∈ wsX110, w ∈ lw_all := lw_in wsX110 [808] (by decide +kernel) (by decide +kernel)

/-! FigureKnee$Swinging -/
set_option maxRecDepth 100000
def RX12 : String := "FigureKnee$Swinging"
def TX12 : u_T := fun k => match k with
  | _ => ("FigureKnee$Law", "number", "I", true)
def tyX12 : Nat → FieldType := fun k => match k with
  | _ => .int
abbrev wsX120 : List Cond := u_ws RX12 TX12 1
theorem nmX12 : ∀ a, a < 1 → ∀ b, b < 1 → a ≠ b → (TX12 a).2.1 ≠ (TX12 b).2.1 := by decide +kernel
theorem tyX12_ok : ∀ k, k < 1 → parseFieldDescriptor (TX12 k).2.2.1 = some (tyX12 k) := by decide +kernel
abbrev cX12_init : ByteArray := prog_12_method_1_code
def yX12_init : MethodName := ⟨RX12, "<init>", "()V"⟩
def dkwX12_init_0 : List UInt8 := [42, 6, 183, 0, 1, 177]
abbrev dktX12_init_0 : List UInt8 := dkwX12_init_0 ++ []
theorem dksX12_init_0 : cX12_init.data.toList.drop 0 = dktX12_init_0 := by decide +kernel
theorem dX12_init_0 : decode cX12_init 0 = .ok (.aload_n 0, 1) := dk_42 (dk_at dksX12_init_0 0 rfl rfl)
theorem dX12_init_1 : decode cX12_init 1 = .ok (.iconst 3, 1) := dk_6 (dk_at dksX12_init_0 1 rfl rfl)
theorem dX12_init_2 : decode cX12_init 2 = .ok (.invokespecial 1, 3) := dk_183 0 1 (dk_at dksX12_init_0 2 rfl rfl)
theorem dX12_init_5 : decode cX12_init 5 = .ok (.return_, 1) := dk_177 (dk_at dksX12_init_0 5 rfl rfl)
abbrev cX12_then : ByteArray := prog_12_method_2_code
def yX12_then : MethodName := ⟨RX12, "then", "(III)I"⟩
def dkwX12_then_0 : List UInt8 := [42, 29, 27, 100, 28, 29, 183, 0, 7, 172]
abbrev dktX12_then_0 : List UInt8 := dkwX12_then_0 ++ []
theorem dksX12_then_0 : cX12_then.data.toList.drop 0 = dktX12_then_0 := by decide +kernel
theorem dX12_then_0 : decode cX12_then 0 = .ok (.aload_n 0, 1) := dk_42 (dk_at dksX12_then_0 0 rfl rfl)
theorem dX12_then_1 : decode cX12_then 1 = .ok (.iload_n 3, 1) := dk_29 (dk_at dksX12_then_0 1 rfl rfl)
theorem dX12_then_2 : decode cX12_then 2 = .ok (.iload_n 1, 1) := dk_27 (dk_at dksX12_then_0 2 rfl rfl)
theorem dX12_then_3 : decode cX12_then 3 = .ok (.isub, 1) := dk_100 (dk_at dksX12_then_0 3 rfl rfl)
theorem dX12_then_4 : decode cX12_then 4 = .ok (.iload_n 2, 1) := dk_28 (dk_at dksX12_then_0 4 rfl rfl)
theorem dX12_then_5 : decode cX12_then 5 = .ok (.iload_n 3, 1) := dk_29 (dk_at dksX12_then_0 5 rfl rfl)
theorem dX12_then_6 : decode cX12_then 6 = .ok (.invokespecial 7, 3) := dk_183 0 7 (dk_at dksX12_then_0 6 rfl rfl)
theorem dX12_then_9 : decode cX12_then 9 = .ok (.ireturn, 1) := dk_172 (dk_at dksX12_then_0 9 rfl rfl)
theorem q147 : (Jvm.Cond.initialized "FigureKnee$Swinging") ∈ lw_all := lw_g (lw_at lw_m1 26 rfl) rfl
theorem q811 : (Jvm.Cond.instantiable "FigureKnee$Swinging" (1 : Nat)) ∈ lw_all := lw_g (lw_at lw_m3 210 rfl) rfl
theorem q813 : (Jvm.Cond.instanceMethod ({ cls := "FigureKnee$Swinging", name := "<init>", desc := "()V" } : Jvm.MethodName)) ∈ lw_all := lw_g (lw_at lw_m3 212 rfl) rfl
theorem q814 : (Jvm.Cond.code ({ cls := "FigureKnee$Swinging", name := "<init>", desc := "()V" } : Jvm.MethodName) prog_12_method_1_code (1 : Nat) (Option.none : Option Jvm.ClassFile.FieldType)) ∈ lw_all := lw_g (lw_at lw_m3 213 rfl) rfl
theorem q815 : (Jvm.Cond.methodLink "FigureKnee$Swinging" (1 : Nat) ({ cls := "FigureKnee$Creeping", name := "<init>", desc := "(I)V" } : Jvm.MethodName)) ∈ lw_all := lw_g (lw_at lw_m3 214 rfl) rfl
theorem q816 : (Jvm.Cond.laysFinal "FigureKnee$Swinging" "FigureKnee$Law" "number" "I") ∈ lw_all := lw_g (lw_at lw_m3 215 rfl) rfl
theorem q817 : (Jvm.Cond.superclass "FigureKnee$Swinging" "FigureKnee$Creeping") ∈ lw_all := lw_g (lw_at lw_m3 216 rfl) rfl
theorem q853 : (Jvm.Cond.selects "FigureKnee$Swinging" ({ cls := "java/lang/Object", name := "getClass", desc := "()Ljava/lang/Class;" } : Jvm.MethodName) ({ cls := "java/lang/Object", name := "getClass", desc := "()Ljava/lang/Class;" } : Jvm.MethodName)) ∈ lw_all := lw_g (lw_at lw_m4 12 rfl) rfl
theorem q1061 : (Jvm.Cond.selects "FigureKnee$Swinging" ({ cls := "FigureKnee$Law", name := "next", desc := "(III)I" } : Jvm.MethodName) ({ cls := "FigureKnee$Law", name := "next", desc := "(III)I" } : Jvm.MethodName)) ∈ lw_all := lw_g (lw_at lw_m4 220 rfl) rfl
theorem q1077 : (Jvm.Cond.selects "FigureKnee$Swinging" ({ cls := "FigureKnee$Law", name := "then", desc := "(III)I" } : Jvm.MethodName) ({ cls := "FigureKnee$Swinging", name := "then", desc := "(III)I" } : Jvm.MethodName)) ∈ lw_all := lw_g (lw_at lw_m4 236 rfl) rfl
theorem q1078 : (Jvm.Cond.instanceMethod ({ cls := "FigureKnee$Swinging", name := "then", desc := "(III)I" } : Jvm.MethodName)) ∈ lw_all := lw_g (lw_at lw_m4 237 rfl) rfl
theorem q1079 : (Jvm.Cond.code ({ cls := "FigureKnee$Swinging", name := "then", desc := "(III)I" } : Jvm.MethodName) prog_12_method_2_code (4 : Nat) (Option.some Jvm.ClassFile.FieldType.int)) ∈ lw_all := lw_g (lw_at lw_m4 238 rfl) rfl
theorem q1080 : (Jvm.Cond.methodLink "FigureKnee$Swinging" (7 : Nat) ({ cls := "FigureKnee$Creeping", name := "then", desc := "(III)I" } : Jvm.MethodName)) ∈ lw_all := lw_g (lw_at lw_m4 239 rfl) rfl
theorem q2211 : (Jvm.Cond.castable "FigureKnee$Swinging" "java/lang/Object") ∈ lw_tbl := lw_at lw_m9 170 rfl
theorem in_X12 : ∀ w ∈ wsX120, w ∈ lw_all := lw_in wsX120 [816] (by decide +kernel) (by decide +kernel)

/-! FigureKnee$Debt -/
set_option maxRecDepth 100000
def RX13 : String := "FigureKnee$Debt"
def TX13 : u_T := fun k => match k with
  | 0 => ("FigureKnee$Debt", "from", "I", true)
  | 1 => ("FigureKnee$Debt", "to", "I", true)
  | _ => ("FigureKnee$Debt", "much", "I", true)
def tyX13 : Nat → FieldType := fun k => match k with
  | 0 => .int
  | 1 => .int
  | _ => .int
abbrev wsX130 : List Cond := u_ws RX13 TX13 3
theorem nmX13 : ∀ a, a < 3 → ∀ b, b < 3 → a ≠ b → (TX13 a).2.1 ≠ (TX13 b).2.1 := by decide +kernel
theorem tyX13_ok : ∀ k, k < 3 → parseFieldDescriptor (TX13 k).2.2.1 = some (tyX13 k) := by decide +kernel
abbrev cX13_init : ByteArray := prog_3_method_1_code
def yX13_init : MethodName := ⟨RX13, "<init>", "(III)V"⟩
def dkwX13_init_0 : List UInt8 := [42, 183, 0, 1, 42, 27, 181, 0, 7, 42, 28, 181, 0, 13, 42, 29, 181, 0, 16, 177]
abbrev dktX13_init_0 : List UInt8 := dkwX13_init_0 ++ []
theorem dksX13_init_0 : cX13_init.data.toList.drop 0 = dktX13_init_0 := by decide +kernel
theorem dX13_init_0 : decode cX13_init 0 = .ok (.aload_n 0, 1) := dk_42 (dk_at dksX13_init_0 0 rfl rfl)
theorem dX13_init_1 : decode cX13_init 1 = .ok (.invokespecial 1, 3) := dk_183 0 1 (dk_at dksX13_init_0 1 rfl rfl)
theorem dX13_init_4 : decode cX13_init 4 = .ok (.aload_n 0, 1) := dk_42 (dk_at dksX13_init_0 4 rfl rfl)
theorem dX13_init_5 : decode cX13_init 5 = .ok (.iload_n 1, 1) := dk_27 (dk_at dksX13_init_0 5 rfl rfl)
theorem dX13_init_6 : decode cX13_init 6 = .ok (.putfield 7, 3) := dk_181 0 7 (dk_at dksX13_init_0 6 rfl rfl)
theorem dX13_init_9 : decode cX13_init 9 = .ok (.aload_n 0, 1) := dk_42 (dk_at dksX13_init_0 9 rfl rfl)
theorem dX13_init_10 : decode cX13_init 10 = .ok (.iload_n 2, 1) := dk_28 (dk_at dksX13_init_0 10 rfl rfl)
theorem dX13_init_11 : decode cX13_init 11 = .ok (.putfield 13, 3) := dk_181 0 13 (dk_at dksX13_init_0 11 rfl rfl)
theorem dX13_init_14 : decode cX13_init 14 = .ok (.aload_n 0, 1) := dk_42 (dk_at dksX13_init_0 14 rfl rfl)
theorem dX13_init_15 : decode cX13_init 15 = .ok (.iload_n 3, 1) := dk_29 (dk_at dksX13_init_0 15 rfl rfl)
theorem dX13_init_16 : decode cX13_init 16 = .ok (.putfield 16, 3) := dk_181 0 16 (dk_at dksX13_init_0 16 rfl rfl)
theorem dX13_init_19 : decode cX13_init 19 = .ok (.return_, 1) := dk_177 (dk_at dksX13_init_0 19 rfl rfl)
theorem q148 : (Jvm.Cond.initialized "FigureKnee$Debt") ∈ lw_all := lw_g (lw_at lw_m1 27 rfl) rfl
theorem q845 : (Jvm.Cond.selects "FigureKnee$Debt" ({ cls := "java/lang/Object", name := "getClass", desc := "()Ljava/lang/Class;" } : Jvm.MethodName) ({ cls := "java/lang/Object", name := "getClass", desc := "()Ljava/lang/Class;" } : Jvm.MethodName)) ∈ lw_all := lw_g (lw_at lw_m4 4 rfl) rfl
theorem q895 : (Jvm.Cond.instantiable "FigureKnee$Debt" (3 : Nat)) ∈ lw_all := lw_g (lw_at lw_m4 54 rfl) rfl
theorem q897 : (Jvm.Cond.instanceMethod ({ cls := "FigureKnee$Debt", name := "<init>", desc := "(III)V" } : Jvm.MethodName)) ∈ lw_all := lw_g (lw_at lw_m4 56 rfl) rfl
theorem q898 : (Jvm.Cond.code ({ cls := "FigureKnee$Debt", name := "<init>", desc := "(III)V" } : Jvm.MethodName) prog_3_method_1_code (4 : Nat) (Option.none : Option Jvm.ClassFile.FieldType)) ∈ lw_all := lw_g (lw_at lw_m4 57 rfl) rfl
theorem q899 : (Jvm.Cond.methodLink "FigureKnee$Debt" (1 : Nat) ({ cls := "java/lang/Object", name := "<init>", desc := "()V" } : Jvm.MethodName)) ∈ lw_all := lw_g (lw_at lw_m4 58 rfl) rfl
theorem q900 : (Jvm.Cond.fieldLink "FigureKnee$Debt" (7 : Nat) "FigureKnee$Debt" "from" "I") ∈ lw_all := lw_g (lw_at lw_m4 59 rfl) rfl
theorem q903 : (Jvm.Cond.fieldLink "FigureKnee$Debt" (13 : Nat) "FigureKnee$Debt" "to" "I") ∈ lw_all := lw_g (lw_at lw_m4 62 rfl) rfl
theorem q906 : (Jvm.Cond.fieldLink "FigureKnee$Debt" (16 : Nat) "FigureKnee$Debt" "much" "I") ∈ lw_all := lw_g (lw_at lw_m4 65 rfl) rfl
theorem q908 : (Jvm.Cond.laysFinal "FigureKnee$Debt" "FigureKnee$Debt" "from" "I") ∈ lw_all := lw_g (lw_at lw_m4 67 rfl) rfl
theorem q909 : (Jvm.Cond.soleField "FigureKnee$Debt" "from") ∈ lw_all := lw_g (lw_at lw_m4 68 rfl) rfl
theorem q910 : (Jvm.Cond.laysFinal "FigureKnee$Debt" "FigureKnee$Debt" "to" "I") ∈ lw_all := lw_g (lw_at lw_m4 69 rfl) rfl
theorem q911 : (Jvm.Cond.soleField "FigureKnee$Debt" "to") ∈ lw_all := lw_g (lw_at lw_m4 70 rfl) rfl
theorem q912 : (Jvm.Cond.laysFinal "FigureKnee$Debt" "FigureKnee$Debt" "much" "I") ∈ lw_all := lw_g (lw_at lw_m4 71 rfl) rfl
theorem q913 : (Jvm.Cond.soleField "FigureKnee$Debt" "much") ∈ lw_all := lw_g (lw_at lw_m4 72 rfl) rfl
theorem q914 : (Jvm.Cond.superclass "FigureKnee$Debt" "java/lang/Object") ∈ lw_all := lw_g (lw_at lw_m4 73 rfl) rfl
theorem q2212 : (Jvm.Cond.castable "FigureKnee$Debt" "java/lang/Object") ∈ lw_tbl := lw_at lw_m9 171 rfl
theorem in_X13 : ∀ w ∈ wsX130, w ∈ lw_all := lw_in wsX130 [908, 910, 912] (by decide +kernel) (by decide +kernel)

/-! FigureKnee$Heard -/
set_option maxRecDepth 100000
def RX14 : String := "FigureKnee$Heard"
def TX14 : u_T := fun k => match k with
  | 0 => ("FigureKnee$Heard", "pair", "I", true)
  | 1 => ("FigureKnee$Heard", "season", "I", true)
  | _ => ("FigureKnee$Heard", "said", "I", true)
def tyX14 : Nat → FieldType := fun k => match k with
  | 0 => .int
  | 1 => .int
  | _ => .int
abbrev wsX140 : List Cond := u_ws RX14 TX14 3
theorem nmX14 : ∀ a, a < 3 → ∀ b, b < 3 → a ≠ b → (TX14 a).2.1 ≠ (TX14 b).2.1 := by decide +kernel
theorem tyX14_ok : ∀ k, k < 3 → parseFieldDescriptor (TX14 k).2.2.1 = some (tyX14 k) := by decide +kernel
abbrev cX14_init : ByteArray := prog_5_method_1_code
def yX14_init : MethodName := ⟨RX14, "<init>", "(III)V"⟩
def dkwX14_init_0 : List UInt8 := [42, 183, 0, 1, 42, 27, 181, 0, 7, 42, 28, 181, 0, 13, 42, 29, 181, 0, 16, 177]
abbrev dktX14_init_0 : List UInt8 := dkwX14_init_0 ++ []
theorem dksX14_init_0 : cX14_init.data.toList.drop 0 = dktX14_init_0 := by decide +kernel
theorem dX14_init_0 : decode cX14_init 0 = .ok (.aload_n 0, 1) := dk_42 (dk_at dksX14_init_0 0 rfl rfl)
theorem dX14_init_1 : decode cX14_init 1 = .ok (.invokespecial 1, 3) := dk_183 0 1 (dk_at dksX14_init_0 1 rfl rfl)
theorem dX14_init_4 : decode cX14_init 4 = .ok (.aload_n 0, 1) := dk_42 (dk_at dksX14_init_0 4 rfl rfl)
theorem dX14_init_5 : decode cX14_init 5 = .ok (.iload_n 1, 1) := dk_27 (dk_at dksX14_init_0 5 rfl rfl)
theorem dX14_init_6 : decode cX14_init 6 = .ok (.putfield 7, 3) := dk_181 0 7 (dk_at dksX14_init_0 6 rfl rfl)
theorem dX14_init_9 : decode cX14_init 9 = .ok (.aload_n 0, 1) := dk_42 (dk_at dksX14_init_0 9 rfl rfl)
theorem dX14_init_10 : decode cX14_init 10 = .ok (.iload_n 2, 1) := dk_28 (dk_at dksX14_init_0 10 rfl rfl)
theorem dX14_init_11 : decode cX14_init 11 = .ok (.putfield 13, 3) := dk_181 0 13 (dk_at dksX14_init_0 11 rfl rfl)
theorem dX14_init_14 : decode cX14_init 14 = .ok (.aload_n 0, 1) := dk_42 (dk_at dksX14_init_0 14 rfl rfl)
theorem dX14_init_15 : decode cX14_init 15 = .ok (.iload_n 3, 1) := dk_29 (dk_at dksX14_init_0 15 rfl rfl)
theorem dX14_init_16 : decode cX14_init 16 = .ok (.putfield 16, 3) := dk_181 0 16 (dk_at dksX14_init_0 16 rfl rfl)
theorem dX14_init_19 : decode cX14_init 19 = .ok (.return_, 1) := dk_177 (dk_at dksX14_init_0 19 rfl rfl)
theorem q149 : (Jvm.Cond.initialized "FigureKnee$Heard") ∈ lw_all := lw_g (lw_at lw_m1 28 rfl) rfl
theorem q847 : (Jvm.Cond.selects "FigureKnee$Heard" ({ cls := "java/lang/Object", name := "getClass", desc := "()Ljava/lang/Class;" } : Jvm.MethodName) ({ cls := "java/lang/Object", name := "getClass", desc := "()Ljava/lang/Class;" } : Jvm.MethodName)) ∈ lw_all := lw_g (lw_at lw_m4 6 rfl) rfl
theorem q930 : (Jvm.Cond.instantiable "FigureKnee$Heard" (3 : Nat)) ∈ lw_all := lw_g (lw_at lw_m4 89 rfl) rfl
theorem q932 : (Jvm.Cond.instanceMethod ({ cls := "FigureKnee$Heard", name := "<init>", desc := "(III)V" } : Jvm.MethodName)) ∈ lw_all := lw_g (lw_at lw_m4 91 rfl) rfl
theorem q933 : (Jvm.Cond.code ({ cls := "FigureKnee$Heard", name := "<init>", desc := "(III)V" } : Jvm.MethodName) prog_5_method_1_code (4 : Nat) (Option.none : Option Jvm.ClassFile.FieldType)) ∈ lw_all := lw_g (lw_at lw_m4 92 rfl) rfl
theorem q934 : (Jvm.Cond.methodLink "FigureKnee$Heard" (1 : Nat) ({ cls := "java/lang/Object", name := "<init>", desc := "()V" } : Jvm.MethodName)) ∈ lw_all := lw_g (lw_at lw_m4 93 rfl) rfl
theorem q935 : (Jvm.Cond.fieldLink "FigureKnee$Heard" (7 : Nat) "FigureKnee$Heard" "pair" "I") ∈ lw_all := lw_g (lw_at lw_m4 94 rfl) rfl
theorem q938 : (Jvm.Cond.fieldLink "FigureKnee$Heard" (13 : Nat) "FigureKnee$Heard" "season" "I") ∈ lw_all := lw_g (lw_at lw_m4 97 rfl) rfl
theorem q941 : (Jvm.Cond.fieldLink "FigureKnee$Heard" (16 : Nat) "FigureKnee$Heard" "said" "I") ∈ lw_all := lw_g (lw_at lw_m4 100 rfl) rfl
theorem q943 : (Jvm.Cond.laysFinal "FigureKnee$Heard" "FigureKnee$Heard" "pair" "I") ∈ lw_all := lw_g (lw_at lw_m4 102 rfl) rfl
theorem q944 : (Jvm.Cond.soleField "FigureKnee$Heard" "pair") ∈ lw_all := lw_g (lw_at lw_m4 103 rfl) rfl
theorem q945 : (Jvm.Cond.laysFinal "FigureKnee$Heard" "FigureKnee$Heard" "season" "I") ∈ lw_all := lw_g (lw_at lw_m4 104 rfl) rfl
theorem q946 : (Jvm.Cond.soleField "FigureKnee$Heard" "season") ∈ lw_all := lw_g (lw_at lw_m4 105 rfl) rfl
theorem q947 : (Jvm.Cond.laysFinal "FigureKnee$Heard" "FigureKnee$Heard" "said" "I") ∈ lw_all := lw_g (lw_at lw_m4 106 rfl) rfl
theorem q948 : (Jvm.Cond.soleField "FigureKnee$Heard" "said") ∈ lw_all := lw_g (lw_at lw_m4 107 rfl) rfl
theorem q949 : (Jvm.Cond.superclass "FigureKnee$Heard" "java/lang/Object") ∈ lw_all := lw_g (lw_at lw_m4 108 rfl) rfl
theorem q2213 : (Jvm.Cond.castable "FigureKnee$Heard" "java/lang/Object") ∈ lw_tbl := lw_at lw_m9 172 rfl
theorem in_X14 : ∀ w ∈ wsX140, w ∈ lw_all := lw_in wsX140 [943, 945, 947] (by decide +kernel) (by decide +kernel)

/-! FigureKnee$Stage -/
set_option maxRecDepth 100000
def RX15 : String := "FigureKnee$Stage"
def TX15 : u_T := fun k => match k with
  | 0 => ("FigureKnee$Stage", "pier", "LFigureKnee$Pier;", true)
  | 1 => ("FigureKnee$Stage", "said", "[B", true)
  | 2 => ("FigureKnee$Stage", "step", "[B", true)
  | 3 => ("FigureKnee$Stage", "owes", "[S", true)
  | _ => ("FigureKnee$Stage", "gone", "I", false)
def tyX15 : Nat → FieldType := fun k => match k with
  | 0 => .object "FigureKnee$Pier"
  | 1 => .array .byte
  | 2 => .array .byte
  | 3 => .array .short
  | _ => .int
abbrev wsX150 : List Cond := u_ws RX15 TX15 5
theorem nmX15 : ∀ a, a < 5 → ∀ b, b < 5 → a ≠ b → (TX15 a).2.1 ≠ (TX15 b).2.1 := by decide +kernel
theorem tyX15_ok : ∀ k, k < 5 → parseFieldDescriptor (TX15 k).2.2.1 = some (tyX15 k) := by decide +kernel
abbrev cX15_init : ByteArray := prog_11_method_1_code
def yX15_init : MethodName := ⟨RX15, "<init>", "(LFigureKnee$Pier;)V"⟩
def dkwX15_init_1 : List UInt8 := [181, 0, 18, 42, 43, 181, 0, 22, 177]
abbrev dktX15_init_1 : List UInt8 := dkwX15_init_1 ++ []
def dkwX15_init_0 : List UInt8 := [42, 183, 0, 3, 42, 8, 188, 8, 181, 0, 9, 42, 8, 188, 8, 181, 0, 15, 42, 16, 25, 188, 9]
abbrev dktX15_init_0 : List UInt8 := dkwX15_init_0 ++ dktX15_init_1
theorem dksX15_init_0 : cX15_init.data.toList.drop 0 = dktX15_init_0 := by decide +kernel
theorem dksX15_init_1 : cX15_init.data.toList.drop 23 = dktX15_init_1 := dk_seg dksX15_init_0 23 rfl rfl
theorem dX15_init_0 : decode cX15_init 0 = .ok (.aload_n 0, 1) := dk_42 (dk_at dksX15_init_0 0 rfl rfl)
theorem dX15_init_1 : decode cX15_init 1 = .ok (.invokespecial 3, 3) := dk_183 0 3 (dk_at dksX15_init_0 1 rfl rfl)
theorem dX15_init_4 : decode cX15_init 4 = .ok (.aload_n 0, 1) := dk_42 (dk_at dksX15_init_0 4 rfl rfl)
theorem dX15_init_5 : decode cX15_init 5 = .ok (.iconst 5, 1) := dk_8 (dk_at dksX15_init_0 5 rfl rfl)
theorem dX15_init_6 : decode cX15_init 6 = .ok (.newarray .byte, 2) := dk_188_8 (dk_at dksX15_init_0 6 rfl rfl)
theorem dX15_init_8 : decode cX15_init 8 = .ok (.putfield 9, 3) := dk_181 0 9 (dk_at dksX15_init_0 8 rfl rfl)
theorem dX15_init_11 : decode cX15_init 11 = .ok (.aload_n 0, 1) := dk_42 (dk_at dksX15_init_0 11 rfl rfl)
theorem dX15_init_12 : decode cX15_init 12 = .ok (.iconst 5, 1) := dk_8 (dk_at dksX15_init_0 12 rfl rfl)
theorem dX15_init_13 : decode cX15_init 13 = .ok (.newarray .byte, 2) := dk_188_8 (dk_at dksX15_init_0 13 rfl rfl)
theorem dX15_init_15 : decode cX15_init 15 = .ok (.putfield 15, 3) := dk_181 0 15 (dk_at dksX15_init_0 15 rfl rfl)
theorem dX15_init_18 : decode cX15_init 18 = .ok (.aload_n 0, 1) := dk_42 (dk_at dksX15_init_0 18 rfl rfl)
theorem dX15_init_19 : decode cX15_init 19 = .ok (.bipush 25, 2) := dk_16 25 (dk_at dksX15_init_0 19 rfl rfl)
theorem dX15_init_21 : decode cX15_init 21 = .ok (.newarray .short, 2) := dk_188_9 (dk_at dksX15_init_0 21 rfl rfl)
theorem dX15_init_23 : decode cX15_init 23 = .ok (.putfield 18, 3) := dk_181 0 18 (dk_at dksX15_init_1 0 rfl rfl)
theorem dX15_init_26 : decode cX15_init 26 = .ok (.aload_n 0, 1) := dk_42 (dk_at dksX15_init_1 3 rfl rfl)
theorem dX15_init_27 : decode cX15_init 27 = .ok (.aload_n 1, 1) := dk_43 (dk_at dksX15_init_1 4 rfl rfl)
theorem dX15_init_28 : decode cX15_init 28 = .ok (.putfield 22, 3) := dk_181 0 22 (dk_at dksX15_init_1 5 rfl rfl)
theorem dX15_init_31 : decode cX15_init 31 = .ok (.return_, 1) := dk_177 (dk_at dksX15_init_1 8 rfl rfl)
abbrev cX15_begins : ByteArray := prog_11_method_2_code
def yX15_begins : MethodName := ⟨RX15, "begins", "()V"⟩
def dkwX15_begins_6 : List UInt8 := [27, 182, 0, 42, 192, 0, 55, 180, 0, 63, 147, 86, 132, 1, 1, 167, 255, 179, 177]
abbrev dktX15_begins_6 : List UInt8 := dkwX15_begins_6 ++ []
def dkwX15_begins_5 : List UInt8 := [180, 0, 22, 180, 0, 52, 27, 182, 0, 42, 192, 0, 55, 180, 0, 60, 96, 42, 180, 0, 22, 180, 0, 52]
abbrev dktX15_begins_5 : List UInt8 := dkwX15_begins_5 ++ dktX15_begins_6
def dkwX15_begins_4 : List UInt8 := [180, 0, 18, 8, 42, 180, 0, 22, 180, 0, 52, 27, 182, 0, 42, 192, 0, 55, 180, 0, 57, 104, 42]
abbrev dktX15_begins_4 : List UInt8 := dkwX15_begins_4 ++ dktX15_begins_5
def dkwX15_begins_3 : List UInt8 := [132, 1, 1, 167, 255, 191, 3, 60, 27, 42, 180, 0, 22, 180, 0, 52, 182, 0, 36, 162, 0, 69, 42]
abbrev dktX15_begins_3 : List UInt8 := dkwX15_begins_3 ++ dktX15_begins_4
def dkwX15_begins_2 : List UInt8 := [180, 0, 15, 27, 42, 180, 0, 22, 180, 0, 30, 27, 182, 0, 42, 192, 0, 46, 180, 0, 50, 145, 84]
abbrev dktX15_begins_2 : List UInt8 := dkwX15_begins_2 ++ dktX15_begins_3
def dkwX15_begins_1 : List UInt8 := [180, 0, 9, 27, 42, 180, 0, 22, 180, 0, 30, 27, 182, 0, 42, 192, 0, 46, 180, 0, 48, 145, 84, 42]
abbrev dktX15_begins_1 : List UInt8 := dkwX15_begins_1 ++ dktX15_begins_2
def dkwX15_begins_0 : List UInt8 := [42, 3, 181, 0, 26, 3, 60, 27, 42, 180, 0, 22, 180, 0, 30, 182, 0, 36, 162, 0, 57, 42]
abbrev dktX15_begins_0 : List UInt8 := dkwX15_begins_0 ++ dktX15_begins_1
theorem dksX15_begins_0 : cX15_begins.data.toList.drop 0 = dktX15_begins_0 := by decide +kernel
theorem dksX15_begins_1 : cX15_begins.data.toList.drop 22 = dktX15_begins_1 := dk_seg dksX15_begins_0 22 rfl rfl
theorem dksX15_begins_2 : cX15_begins.data.toList.drop 46 = dktX15_begins_2 := dk_seg dksX15_begins_1 24 rfl rfl
theorem dksX15_begins_3 : cX15_begins.data.toList.drop 69 = dktX15_begins_3 := dk_seg dksX15_begins_2 23 rfl rfl
theorem dksX15_begins_4 : cX15_begins.data.toList.drop 92 = dktX15_begins_4 := dk_seg dksX15_begins_3 23 rfl rfl
theorem dksX15_begins_5 : cX15_begins.data.toList.drop 115 = dktX15_begins_5 := dk_seg dksX15_begins_4 23 rfl rfl
theorem dksX15_begins_6 : cX15_begins.data.toList.drop 139 = dktX15_begins_6 := dk_seg dksX15_begins_5 24 rfl rfl
theorem dX15_begins_0 : decode cX15_begins 0 = .ok (.aload_n 0, 1) := dk_42 (dk_at dksX15_begins_0 0 rfl rfl)
theorem dX15_begins_1 : decode cX15_begins 1 = .ok (.iconst 0, 1) := dk_3 (dk_at dksX15_begins_0 1 rfl rfl)
theorem dX15_begins_2 : decode cX15_begins 2 = .ok (.putfield 26, 3) := dk_181 0 26 (dk_at dksX15_begins_0 2 rfl rfl)
theorem dX15_begins_5 : decode cX15_begins 5 = .ok (.iconst 0, 1) := dk_3 (dk_at dksX15_begins_0 5 rfl rfl)
theorem dX15_begins_6 : decode cX15_begins 6 = .ok (.istore_n 1, 1) := dk_60 (dk_at dksX15_begins_0 6 rfl rfl)
theorem dX15_begins_7 : decode cX15_begins 7 = .ok (.iload_n 1, 1) := dk_27 (dk_at dksX15_begins_0 7 rfl rfl)
theorem dX15_begins_8 : decode cX15_begins 8 = .ok (.aload_n 0, 1) := dk_42 (dk_at dksX15_begins_0 8 rfl rfl)
theorem dX15_begins_9 : decode cX15_begins 9 = .ok (.getfield 22, 3) := dk_180 0 22 (dk_at dksX15_begins_0 9 rfl rfl)
theorem dX15_begins_12 : decode cX15_begins 12 = .ok (.getfield 30, 3) := dk_180 0 30 (dk_at dksX15_begins_0 12 rfl rfl)
theorem dX15_begins_15 : decode cX15_begins 15 = .ok (.invokevirtual 36, 3) := dk_182 0 36 (dk_at dksX15_begins_0 15 rfl rfl)
theorem dX15_begins_18 : decode cX15_begins 18 = .ok (.if_icmp .ge 57, 3) := dk_162 0 57 (dk_at dksX15_begins_0 18 rfl rfl)
theorem dX15_begins_21 : decode cX15_begins 21 = .ok (.aload_n 0, 1) := dk_42 (dk_at dksX15_begins_0 21 rfl rfl)
theorem dX15_begins_22 : decode cX15_begins 22 = .ok (.getfield 9, 3) := dk_180 0 9 (dk_at dksX15_begins_1 0 rfl rfl)
theorem dX15_begins_25 : decode cX15_begins 25 = .ok (.iload_n 1, 1) := dk_27 (dk_at dksX15_begins_1 3 rfl rfl)
theorem dX15_begins_26 : decode cX15_begins 26 = .ok (.aload_n 0, 1) := dk_42 (dk_at dksX15_begins_1 4 rfl rfl)
theorem dX15_begins_27 : decode cX15_begins 27 = .ok (.getfield 22, 3) := dk_180 0 22 (dk_at dksX15_begins_1 5 rfl rfl)
theorem dX15_begins_30 : decode cX15_begins 30 = .ok (.getfield 30, 3) := dk_180 0 30 (dk_at dksX15_begins_1 8 rfl rfl)
theorem dX15_begins_33 : decode cX15_begins 33 = .ok (.iload_n 1, 1) := dk_27 (dk_at dksX15_begins_1 11 rfl rfl)
theorem dX15_begins_34 : decode cX15_begins 34 = .ok (.invokevirtual 42, 3) := dk_182 0 42 (dk_at dksX15_begins_1 12 rfl rfl)
theorem dX15_begins_37 : decode cX15_begins 37 = .ok (.checkcast 46, 3) := dk_192 0 46 (dk_at dksX15_begins_1 15 rfl rfl)
theorem dX15_begins_40 : decode cX15_begins 40 = .ok (.getfield 48, 3) := dk_180 0 48 (dk_at dksX15_begins_1 18 rfl rfl)
theorem dX15_begins_43 : decode cX15_begins 43 = .ok (.i2b, 1) := dk_145 (dk_at dksX15_begins_1 21 rfl rfl)
theorem dX15_begins_44 : decode cX15_begins 44 = .ok (.bastore, 1) := dk_84 (dk_at dksX15_begins_1 22 rfl rfl)
theorem dX15_begins_45 : decode cX15_begins 45 = .ok (.aload_n 0, 1) := dk_42 (dk_at dksX15_begins_1 23 rfl rfl)
theorem dX15_begins_46 : decode cX15_begins 46 = .ok (.getfield 15, 3) := dk_180 0 15 (dk_at dksX15_begins_2 0 rfl rfl)
theorem dX15_begins_49 : decode cX15_begins 49 = .ok (.iload_n 1, 1) := dk_27 (dk_at dksX15_begins_2 3 rfl rfl)
theorem dX15_begins_50 : decode cX15_begins 50 = .ok (.aload_n 0, 1) := dk_42 (dk_at dksX15_begins_2 4 rfl rfl)
theorem dX15_begins_51 : decode cX15_begins 51 = .ok (.getfield 22, 3) := dk_180 0 22 (dk_at dksX15_begins_2 5 rfl rfl)
theorem dX15_begins_54 : decode cX15_begins 54 = .ok (.getfield 30, 3) := dk_180 0 30 (dk_at dksX15_begins_2 8 rfl rfl)
theorem dX15_begins_57 : decode cX15_begins 57 = .ok (.iload_n 1, 1) := dk_27 (dk_at dksX15_begins_2 11 rfl rfl)
theorem dX15_begins_58 : decode cX15_begins 58 = .ok (.invokevirtual 42, 3) := dk_182 0 42 (dk_at dksX15_begins_2 12 rfl rfl)
theorem dX15_begins_61 : decode cX15_begins 61 = .ok (.checkcast 46, 3) := dk_192 0 46 (dk_at dksX15_begins_2 15 rfl rfl)
theorem dX15_begins_64 : decode cX15_begins 64 = .ok (.getfield 50, 3) := dk_180 0 50 (dk_at dksX15_begins_2 18 rfl rfl)
theorem dX15_begins_67 : decode cX15_begins 67 = .ok (.i2b, 1) := dk_145 (dk_at dksX15_begins_2 21 rfl rfl)
theorem dX15_begins_68 : decode cX15_begins 68 = .ok (.bastore, 1) := dk_84 (dk_at dksX15_begins_2 22 rfl rfl)
theorem dX15_begins_69 : decode cX15_begins 69 = .ok (.iinc 1 1, 3) := dk_132 1 1 (dk_at dksX15_begins_3 0 rfl rfl)
theorem dX15_begins_72 : decode cX15_begins 72 = .ok (.goto (-65), 3) := dk_167 255 191 (dk_at dksX15_begins_3 3 rfl rfl)
theorem dX15_begins_75 : decode cX15_begins 75 = .ok (.iconst 0, 1) := dk_3 (dk_at dksX15_begins_3 6 rfl rfl)
theorem dX15_begins_76 : decode cX15_begins 76 = .ok (.istore_n 1, 1) := dk_60 (dk_at dksX15_begins_3 7 rfl rfl)
theorem dX15_begins_77 : decode cX15_begins 77 = .ok (.iload_n 1, 1) := dk_27 (dk_at dksX15_begins_3 8 rfl rfl)
theorem dX15_begins_78 : decode cX15_begins 78 = .ok (.aload_n 0, 1) := dk_42 (dk_at dksX15_begins_3 9 rfl rfl)
theorem dX15_begins_79 : decode cX15_begins 79 = .ok (.getfield 22, 3) := dk_180 0 22 (dk_at dksX15_begins_3 10 rfl rfl)
theorem dX15_begins_82 : decode cX15_begins 82 = .ok (.getfield 52, 3) := dk_180 0 52 (dk_at dksX15_begins_3 13 rfl rfl)
theorem dX15_begins_85 : decode cX15_begins 85 = .ok (.invokevirtual 36, 3) := dk_182 0 36 (dk_at dksX15_begins_3 16 rfl rfl)
theorem dX15_begins_88 : decode cX15_begins 88 = .ok (.if_icmp .ge 69, 3) := dk_162 0 69 (dk_at dksX15_begins_3 19 rfl rfl)
theorem dX15_begins_91 : decode cX15_begins 91 = .ok (.aload_n 0, 1) := dk_42 (dk_at dksX15_begins_3 22 rfl rfl)
theorem dX15_begins_92 : decode cX15_begins 92 = .ok (.getfield 18, 3) := dk_180 0 18 (dk_at dksX15_begins_4 0 rfl rfl)
theorem dX15_begins_95 : decode cX15_begins 95 = .ok (.iconst 5, 1) := dk_8 (dk_at dksX15_begins_4 3 rfl rfl)
theorem dX15_begins_96 : decode cX15_begins 96 = .ok (.aload_n 0, 1) := dk_42 (dk_at dksX15_begins_4 4 rfl rfl)
theorem dX15_begins_97 : decode cX15_begins 97 = .ok (.getfield 22, 3) := dk_180 0 22 (dk_at dksX15_begins_4 5 rfl rfl)
theorem dX15_begins_100 : decode cX15_begins 100 = .ok (.getfield 52, 3) := dk_180 0 52 (dk_at dksX15_begins_4 8 rfl rfl)
theorem dX15_begins_103 : decode cX15_begins 103 = .ok (.iload_n 1, 1) := dk_27 (dk_at dksX15_begins_4 11 rfl rfl)
theorem dX15_begins_104 : decode cX15_begins 104 = .ok (.invokevirtual 42, 3) := dk_182 0 42 (dk_at dksX15_begins_4 12 rfl rfl)
theorem dX15_begins_107 : decode cX15_begins 107 = .ok (.checkcast 55, 3) := dk_192 0 55 (dk_at dksX15_begins_4 15 rfl rfl)
theorem dX15_begins_110 : decode cX15_begins 110 = .ok (.getfield 57, 3) := dk_180 0 57 (dk_at dksX15_begins_4 18 rfl rfl)
theorem dX15_begins_113 : decode cX15_begins 113 = .ok (.imul, 1) := dk_104 (dk_at dksX15_begins_4 21 rfl rfl)
theorem dX15_begins_114 : decode cX15_begins 114 = .ok (.aload_n 0, 1) := dk_42 (dk_at dksX15_begins_4 22 rfl rfl)
theorem dX15_begins_115 : decode cX15_begins 115 = .ok (.getfield 22, 3) := dk_180 0 22 (dk_at dksX15_begins_5 0 rfl rfl)
theorem dX15_begins_118 : decode cX15_begins 118 = .ok (.getfield 52, 3) := dk_180 0 52 (dk_at dksX15_begins_5 3 rfl rfl)
theorem dX15_begins_121 : decode cX15_begins 121 = .ok (.iload_n 1, 1) := dk_27 (dk_at dksX15_begins_5 6 rfl rfl)
theorem dX15_begins_122 : decode cX15_begins 122 = .ok (.invokevirtual 42, 3) := dk_182 0 42 (dk_at dksX15_begins_5 7 rfl rfl)
theorem dX15_begins_125 : decode cX15_begins 125 = .ok (.checkcast 55, 3) := dk_192 0 55 (dk_at dksX15_begins_5 10 rfl rfl)
theorem dX15_begins_128 : decode cX15_begins 128 = .ok (.getfield 60, 3) := dk_180 0 60 (dk_at dksX15_begins_5 13 rfl rfl)
theorem dX15_begins_131 : decode cX15_begins 131 = .ok (.iadd, 1) := dk_96 (dk_at dksX15_begins_5 16 rfl rfl)
theorem dX15_begins_132 : decode cX15_begins 132 = .ok (.aload_n 0, 1) := dk_42 (dk_at dksX15_begins_5 17 rfl rfl)
theorem dX15_begins_133 : decode cX15_begins 133 = .ok (.getfield 22, 3) := dk_180 0 22 (dk_at dksX15_begins_5 18 rfl rfl)
theorem dX15_begins_136 : decode cX15_begins 136 = .ok (.getfield 52, 3) := dk_180 0 52 (dk_at dksX15_begins_5 21 rfl rfl)
theorem dX15_begins_139 : decode cX15_begins 139 = .ok (.iload_n 1, 1) := dk_27 (dk_at dksX15_begins_6 0 rfl rfl)
theorem dX15_begins_140 : decode cX15_begins 140 = .ok (.invokevirtual 42, 3) := dk_182 0 42 (dk_at dksX15_begins_6 1 rfl rfl)
theorem dX15_begins_143 : decode cX15_begins 143 = .ok (.checkcast 55, 3) := dk_192 0 55 (dk_at dksX15_begins_6 4 rfl rfl)
theorem dX15_begins_146 : decode cX15_begins 146 = .ok (.getfield 63, 3) := dk_180 0 63 (dk_at dksX15_begins_6 7 rfl rfl)
theorem dX15_begins_149 : decode cX15_begins 149 = .ok (.i2s, 1) := dk_147 (dk_at dksX15_begins_6 10 rfl rfl)
theorem dX15_begins_150 : decode cX15_begins 150 = .ok (.sastore, 1) := dk_86 (dk_at dksX15_begins_6 11 rfl rfl)
theorem dX15_begins_151 : decode cX15_begins 151 = .ok (.iinc 1 1, 3) := dk_132 1 1 (dk_at dksX15_begins_6 12 rfl rfl)
theorem dX15_begins_154 : decode cX15_begins 154 = .ok (.goto (-77), 3) := dk_167 255 179 (dk_at dksX15_begins_6 15 rfl rfl)
theorem dX15_begins_157 : decode cX15_begins 157 = .ok (.return_, 1) := dk_177 (dk_at dksX15_begins_6 18 rfl rfl)
abbrev cX15_copy : ByteArray := prog_11_method_3_code
def yX15_copy : MethodName := ⟨RX15, "copy", "()LFigureKnee$Stage;"⟩
def dkwX15_copy_2 : List UInt8 := [180, 0, 18, 3, 42, 180, 0, 18, 190, 184, 0, 69, 43, 42, 180, 0, 26, 181, 0, 26, 43, 176]
abbrev dktX15_copy_2 : List UInt8 := dkwX15_copy_2 ++ []
def dkwX15_copy_1 : List UInt8 := [184, 0, 69, 42, 180, 0, 15, 3, 43, 180, 0, 15, 3, 8, 184, 0, 69, 42, 180, 0, 18, 3, 43]
abbrev dktX15_copy_1 : List UInt8 := dkwX15_copy_1 ++ dktX15_copy_2
def dkwX15_copy_0 : List UInt8 := [187, 0, 10, 89, 42, 180, 0, 22, 183, 0, 66, 76, 42, 180, 0, 9, 3, 43, 180, 0, 9, 3, 8]
abbrev dktX15_copy_0 : List UInt8 := dkwX15_copy_0 ++ dktX15_copy_1
theorem dksX15_copy_0 : cX15_copy.data.toList.drop 0 = dktX15_copy_0 := by decide +kernel
theorem dksX15_copy_1 : cX15_copy.data.toList.drop 23 = dktX15_copy_1 := dk_seg dksX15_copy_0 23 rfl rfl
theorem dksX15_copy_2 : cX15_copy.data.toList.drop 46 = dktX15_copy_2 := dk_seg dksX15_copy_1 23 rfl rfl
theorem dX15_copy_0 : decode cX15_copy 0 = .ok (.new 10, 3) := dk_187 0 10 (dk_at dksX15_copy_0 0 rfl rfl)
theorem dX15_copy_3 : decode cX15_copy 3 = .ok (.dup, 1) := dk_89 (dk_at dksX15_copy_0 3 rfl rfl)
theorem dX15_copy_4 : decode cX15_copy 4 = .ok (.aload_n 0, 1) := dk_42 (dk_at dksX15_copy_0 4 rfl rfl)
theorem dX15_copy_5 : decode cX15_copy 5 = .ok (.getfield 22, 3) := dk_180 0 22 (dk_at dksX15_copy_0 5 rfl rfl)
theorem dX15_copy_8 : decode cX15_copy 8 = .ok (.invokespecial 66, 3) := dk_183 0 66 (dk_at dksX15_copy_0 8 rfl rfl)
theorem dX15_copy_11 : decode cX15_copy 11 = .ok (.astore_n 1, 1) := dk_76 (dk_at dksX15_copy_0 11 rfl rfl)
theorem dX15_copy_12 : decode cX15_copy 12 = .ok (.aload_n 0, 1) := dk_42 (dk_at dksX15_copy_0 12 rfl rfl)
theorem dX15_copy_13 : decode cX15_copy 13 = .ok (.getfield 9, 3) := dk_180 0 9 (dk_at dksX15_copy_0 13 rfl rfl)
theorem dX15_copy_16 : decode cX15_copy 16 = .ok (.iconst 0, 1) := dk_3 (dk_at dksX15_copy_0 16 rfl rfl)
theorem dX15_copy_17 : decode cX15_copy 17 = .ok (.aload_n 1, 1) := dk_43 (dk_at dksX15_copy_0 17 rfl rfl)
theorem dX15_copy_18 : decode cX15_copy 18 = .ok (.getfield 9, 3) := dk_180 0 9 (dk_at dksX15_copy_0 18 rfl rfl)
theorem dX15_copy_21 : decode cX15_copy 21 = .ok (.iconst 0, 1) := dk_3 (dk_at dksX15_copy_0 21 rfl rfl)
theorem dX15_copy_22 : decode cX15_copy 22 = .ok (.iconst 5, 1) := dk_8 (dk_at dksX15_copy_0 22 rfl rfl)
theorem dX15_copy_23 : decode cX15_copy 23 = .ok (.invokestatic 69, 3) := dk_184 0 69 (dk_at dksX15_copy_1 0 rfl rfl)
theorem dX15_copy_26 : decode cX15_copy 26 = .ok (.aload_n 0, 1) := dk_42 (dk_at dksX15_copy_1 3 rfl rfl)
theorem dX15_copy_27 : decode cX15_copy 27 = .ok (.getfield 15, 3) := dk_180 0 15 (dk_at dksX15_copy_1 4 rfl rfl)
theorem dX15_copy_30 : decode cX15_copy 30 = .ok (.iconst 0, 1) := dk_3 (dk_at dksX15_copy_1 7 rfl rfl)
theorem dX15_copy_31 : decode cX15_copy 31 = .ok (.aload_n 1, 1) := dk_43 (dk_at dksX15_copy_1 8 rfl rfl)
theorem dX15_copy_32 : decode cX15_copy 32 = .ok (.getfield 15, 3) := dk_180 0 15 (dk_at dksX15_copy_1 9 rfl rfl)
theorem dX15_copy_35 : decode cX15_copy 35 = .ok (.iconst 0, 1) := dk_3 (dk_at dksX15_copy_1 12 rfl rfl)
theorem dX15_copy_36 : decode cX15_copy 36 = .ok (.iconst 5, 1) := dk_8 (dk_at dksX15_copy_1 13 rfl rfl)
theorem dX15_copy_37 : decode cX15_copy 37 = .ok (.invokestatic 69, 3) := dk_184 0 69 (dk_at dksX15_copy_1 14 rfl rfl)
theorem dX15_copy_40 : decode cX15_copy 40 = .ok (.aload_n 0, 1) := dk_42 (dk_at dksX15_copy_1 17 rfl rfl)
theorem dX15_copy_41 : decode cX15_copy 41 = .ok (.getfield 18, 3) := dk_180 0 18 (dk_at dksX15_copy_1 18 rfl rfl)
theorem dX15_copy_44 : decode cX15_copy 44 = .ok (.iconst 0, 1) := dk_3 (dk_at dksX15_copy_1 21 rfl rfl)
theorem dX15_copy_45 : decode cX15_copy 45 = .ok (.aload_n 1, 1) := dk_43 (dk_at dksX15_copy_1 22 rfl rfl)
theorem dX15_copy_46 : decode cX15_copy 46 = .ok (.getfield 18, 3) := dk_180 0 18 (dk_at dksX15_copy_2 0 rfl rfl)
theorem dX15_copy_49 : decode cX15_copy 49 = .ok (.iconst 0, 1) := dk_3 (dk_at dksX15_copy_2 3 rfl rfl)
theorem dX15_copy_50 : decode cX15_copy 50 = .ok (.aload_n 0, 1) := dk_42 (dk_at dksX15_copy_2 4 rfl rfl)
theorem dX15_copy_51 : decode cX15_copy 51 = .ok (.getfield 18, 3) := dk_180 0 18 (dk_at dksX15_copy_2 5 rfl rfl)
theorem dX15_copy_54 : decode cX15_copy 54 = .ok (.arraylength, 1) := dk_190 (dk_at dksX15_copy_2 8 rfl rfl)
theorem dX15_copy_55 : decode cX15_copy 55 = .ok (.invokestatic 69, 3) := dk_184 0 69 (dk_at dksX15_copy_2 9 rfl rfl)
theorem dX15_copy_58 : decode cX15_copy 58 = .ok (.aload_n 1, 1) := dk_43 (dk_at dksX15_copy_2 12 rfl rfl)
theorem dX15_copy_59 : decode cX15_copy 59 = .ok (.aload_n 0, 1) := dk_42 (dk_at dksX15_copy_2 13 rfl rfl)
theorem dX15_copy_60 : decode cX15_copy 60 = .ok (.getfield 26, 3) := dk_180 0 26 (dk_at dksX15_copy_2 14 rfl rfl)
theorem dX15_copy_63 : decode cX15_copy 63 = .ok (.putfield 26, 3) := dk_181 0 26 (dk_at dksX15_copy_2 17 rfl rfl)
theorem dX15_copy_66 : decode cX15_copy 66 = .ok (.aload_n 1, 1) := dk_43 (dk_at dksX15_copy_2 20 rfl rfl)
theorem dX15_copy_67 : decode cX15_copy 67 = .ok (.areturn, 1) := dk_176 (dk_at dksX15_copy_2 21 rfl rfl)
theorem q150 : (Jvm.Cond.initialized "FigureKnee$Stage") ∈ lw_all := lw_g (lw_at lw_m1 29 rfl) rfl
theorem q308 : (Jvm.Cond.fieldLink "FigureKnee$Stage" (30 : Nat) "FigureKnee$Pier" "pairs" "Ljava/util/ArrayList;") ∈ lw_all := lw_g (lw_at lw_m1 187 rfl) rfl
theorem q312 : (Jvm.Cond.fieldLink "FigureKnee$Stage" (52 : Nat) "FigureKnee$Pier" "debts" "Ljava/util/ArrayList;") ∈ lw_all := lw_g (lw_at lw_m1 191 rfl) rfl
theorem q746 : (Jvm.Cond.fieldLink "FigureKnee$Stage" (48 : Nat) "FigureKnee$Pair" "said" "I") ∈ lw_all := lw_g (lw_at lw_m3 145 rfl) rfl
theorem q749 : (Jvm.Cond.fieldLink "FigureKnee$Stage" (50 : Nat) "FigureKnee$Pair" "step" "I") ∈ lw_all := lw_g (lw_at lw_m3 148 rfl) rfl
theorem q852 : (Jvm.Cond.selects "FigureKnee$Stage" ({ cls := "java/lang/Object", name := "getClass", desc := "()Ljava/lang/Class;" } : Jvm.MethodName) ({ cls := "java/lang/Object", name := "getClass", desc := "()Ljava/lang/Class;" } : Jvm.MethodName)) ∈ lw_all := lw_g (lw_at lw_m4 11 rfl) rfl
theorem q901 : (Jvm.Cond.fieldLink "FigureKnee$Stage" (57 : Nat) "FigureKnee$Debt" "from" "I") ∈ lw_all := lw_g (lw_at lw_m4 60 rfl) rfl
theorem q904 : (Jvm.Cond.fieldLink "FigureKnee$Stage" (60 : Nat) "FigureKnee$Debt" "to" "I") ∈ lw_all := lw_g (lw_at lw_m4 63 rfl) rfl
theorem q907 : (Jvm.Cond.fieldLink "FigureKnee$Stage" (63 : Nat) "FigureKnee$Debt" "much" "I") ∈ lw_all := lw_g (lw_at lw_m4 66 rfl) rfl
theorem q959 : (Jvm.Cond.instantiable "FigureKnee$Stage" (5 : Nat)) ∈ lw_all := lw_g (lw_at lw_m4 118 rfl) rfl
theorem q961 : (Jvm.Cond.instanceMethod ({ cls := "FigureKnee$Stage", name := "<init>", desc := "(LFigureKnee$Pier;)V" } : Jvm.MethodName)) ∈ lw_all := lw_g (lw_at lw_m4 120 rfl) rfl
theorem q962 : (Jvm.Cond.code ({ cls := "FigureKnee$Stage", name := "<init>", desc := "(LFigureKnee$Pier;)V" } : Jvm.MethodName) prog_11_method_1_code (2 : Nat) (Option.none : Option Jvm.ClassFile.FieldType)) ∈ lw_all := lw_g (lw_at lw_m4 121 rfl) rfl
theorem q963 : (Jvm.Cond.methodLink "FigureKnee$Stage" (3 : Nat) ({ cls := "java/lang/Object", name := "<init>", desc := "()V" } : Jvm.MethodName)) ∈ lw_all := lw_g (lw_at lw_m4 122 rfl) rfl
theorem q964 : (Jvm.Cond.fieldLink "FigureKnee$Stage" (22 : Nat) "FigureKnee$Stage" "pier" "LFigureKnee$Pier;") ∈ lw_all := lw_g (lw_at lw_m4 123 rfl) rfl
theorem q965 : (Jvm.Cond.fieldLink "FigureKnee$Stage" (9 : Nat) "FigureKnee$Stage" "said" "[B") ∈ lw_all := lw_g (lw_at lw_m4 124 rfl) rfl
theorem q967 : (Jvm.Cond.fieldLink "FigureKnee$Stage" (15 : Nat) "FigureKnee$Stage" "step" "[B") ∈ lw_all := lw_g (lw_at lw_m4 126 rfl) rfl
theorem q969 : (Jvm.Cond.fieldLink "FigureKnee$Stage" (18 : Nat) "FigureKnee$Stage" "owes" "[S") ∈ lw_all := lw_g (lw_at lw_m4 128 rfl) rfl
theorem q971 : (Jvm.Cond.fieldLink "FigureKnee$Stage" (26 : Nat) "FigureKnee$Stage" "gone" "I") ∈ lw_all := lw_g (lw_at lw_m4 130 rfl) rfl
theorem q973 : (Jvm.Cond.laysFinal "FigureKnee$Stage" "FigureKnee$Stage" "pier" "LFigureKnee$Pier;") ∈ lw_all := lw_g (lw_at lw_m4 132 rfl) rfl
theorem q974 : (Jvm.Cond.soleField "FigureKnee$Stage" "pier") ∈ lw_all := lw_g (lw_at lw_m4 133 rfl) rfl
theorem q975 : (Jvm.Cond.laysFinal "FigureKnee$Stage" "FigureKnee$Stage" "said" "[B") ∈ lw_all := lw_g (lw_at lw_m4 134 rfl) rfl
theorem q976 : (Jvm.Cond.soleField "FigureKnee$Stage" "said") ∈ lw_all := lw_g (lw_at lw_m4 135 rfl) rfl
theorem q977 : (Jvm.Cond.laysFinal "FigureKnee$Stage" "FigureKnee$Stage" "step" "[B") ∈ lw_all := lw_g (lw_at lw_m4 136 rfl) rfl
theorem q978 : (Jvm.Cond.soleField "FigureKnee$Stage" "step") ∈ lw_all := lw_g (lw_at lw_m4 137 rfl) rfl
theorem q979 : (Jvm.Cond.laysFinal "FigureKnee$Stage" "FigureKnee$Stage" "owes" "[S") ∈ lw_all := lw_g (lw_at lw_m4 138 rfl) rfl
theorem q980 : (Jvm.Cond.soleField "FigureKnee$Stage" "owes") ∈ lw_all := lw_g (lw_at lw_m4 139 rfl) rfl
theorem q981 : (Jvm.Cond.lays "FigureKnee$Stage" "FigureKnee$Stage" "gone" "I") ∈ lw_all := lw_g (lw_at lw_m4 140 rfl) rfl
theorem q982 : (Jvm.Cond.soleField "FigureKnee$Stage" "gone") ∈ lw_all := lw_g (lw_at lw_m4 141 rfl) rfl
theorem q983 : (Jvm.Cond.superclass "FigureKnee$Stage" "java/lang/Object") ∈ lw_all := lw_g (lw_at lw_m4 142 rfl) rfl
theorem q985 : (Jvm.Cond.instanceMethod ({ cls := "FigureKnee$Stage", name := "begins", desc := "()V" } : Jvm.MethodName)) ∈ lw_all := lw_g (lw_at lw_m4 144 rfl) rfl
theorem q986 : (Jvm.Cond.selects "FigureKnee$Stage" ({ cls := "FigureKnee$Stage", name := "begins", desc := "()V" } : Jvm.MethodName) ({ cls := "FigureKnee$Stage", name := "begins", desc := "()V" } : Jvm.MethodName)) ∈ lw_all := lw_g (lw_at lw_m4 145 rfl) rfl
theorem q987 : (Jvm.Cond.code ({ cls := "FigureKnee$Stage", name := "begins", desc := "()V" } : Jvm.MethodName) prog_11_method_2_code (2 : Nat) (Option.none : Option Jvm.ClassFile.FieldType)) ∈ lw_all := lw_g (lw_at lw_m4 146 rfl) rfl
theorem q988 : (Jvm.Cond.methodLink "FigureKnee$Stage" (36 : Nat) ({ cls := "java/util/ArrayList", name := "size", desc := "()I" } : Jvm.MethodName)) ∈ lw_all := lw_g (lw_at lw_m4 147 rfl) rfl
theorem q989 : (Jvm.Cond.methodLink "FigureKnee$Stage" (42 : Nat) ({ cls := "java/util/ArrayList", name := "get", desc := "(I)Ljava/lang/Object;" } : Jvm.MethodName)) ∈ lw_all := lw_g (lw_at lw_m4 148 rfl) rfl
theorem q990 : (Jvm.Cond.classLink "FigureKnee$Stage" (46 : Nat) "FigureKnee$Pair") ∈ lw_all := lw_g (lw_at lw_m4 149 rfl) rfl
theorem q991 : (Jvm.Cond.classLink "FigureKnee$Stage" (55 : Nat) "FigureKnee$Debt") ∈ lw_all := lw_g (lw_at lw_m4 150 rfl) rfl
theorem q1404 : (Jvm.Cond.instanceMethod ({ cls := "FigureKnee$Stage", name := "copy", desc := "()LFigureKnee$Stage;" } : Jvm.MethodName)) ∈ lw_all := lw_g (lw_at lw_m6 83 rfl) rfl
theorem q1405 : (Jvm.Cond.selects "FigureKnee$Stage" ({ cls := "FigureKnee$Stage", name := "copy", desc := "()LFigureKnee$Stage;" } : Jvm.MethodName) ({ cls := "FigureKnee$Stage", name := "copy", desc := "()LFigureKnee$Stage;" } : Jvm.MethodName)) ∈ lw_all := lw_g (lw_at lw_m6 84 rfl) rfl
theorem q1406 : (Jvm.Cond.code ({ cls := "FigureKnee$Stage", name := "copy", desc := "()LFigureKnee$Stage;" } : Jvm.MethodName) prog_11_method_3_code (2 : Nat) (Option.some (Jvm.ClassFile.FieldType.object "FigureKnee$Stage"))) ∈ lw_all := lw_g (lw_at lw_m6 85 rfl) rfl
theorem q1407 : (Jvm.Cond.classLink "FigureKnee$Stage" (10 : Nat) "FigureKnee$Stage") ∈ lw_all := lw_g (lw_at lw_m6 86 rfl) rfl
theorem q1408 : (Jvm.Cond.methodLink "FigureKnee$Stage" (66 : Nat) ({ cls := "FigureKnee$Stage", name := "<init>", desc := "(LFigureKnee$Pier;)V" } : Jvm.MethodName)) ∈ lw_all := lw_g (lw_at lw_m6 87 rfl) rfl
theorem q1409 : (Jvm.Cond.methodLink "FigureKnee$Stage" (69 : Nat) ({ cls := "java/lang/System", name := "arraycopy", desc := "(Ljava/lang/Object;ILjava/lang/Object;II)V" } : Jvm.MethodName)) ∈ lw_all := lw_g (lw_at lw_m6 88 rfl) rfl
theorem q2214 : (Jvm.Cond.castable "FigureKnee$Stage" "java/lang/Object") ∈ lw_tbl := lw_at lw_m9 173 rfl
theorem in_X15 : ∀ w ∈ wsX150, w ∈ lw_all := lw_in wsX150 [973, 975, 977, 979, 981] (by decide +kernel) (by decide +kernel)

