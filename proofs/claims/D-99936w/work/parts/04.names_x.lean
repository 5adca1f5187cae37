/-! TroughTreatyLaw -/
set_option maxRecDepth 100000
def RX0 : String := "TroughTreatyLaw"
abbrev cX0_horse : ByteArray := method_3_code
def yX0_horse : MethodName := ⟨RX0, "horse", "(LTroughTreaty;II[J)I"⟩
def dkwX0_horse_0 : List UInt8 := [45, 3, 42, 27, 28, 182, 0, 7, 133, 80, 167, 0, 11, 58, 4, 4, 172, 58, 4, 5, 172, 3, 172]
abbrev dktX0_horse_0 : List UInt8 := dkwX0_horse_0 ++ []
theorem dksX0_horse_0 : cX0_horse.data.toList.drop 0 = dktX0_horse_0 := by decide +kernel
theorem dX0_horse_0 : decode cX0_horse 0 = .ok (.aload_n 3, 1) := dk_45 (dk_at dksX0_horse_0 0 rfl rfl)
theorem dX0_horse_1 : decode cX0_horse 1 = .ok (.iconst 0, 1) := dk_3 (dk_at dksX0_horse_0 1 rfl rfl)
theorem dX0_horse_2 : decode cX0_horse 2 = .ok (.aload_n 0, 1) := dk_42 (dk_at dksX0_horse_0 2 rfl rfl)
theorem dX0_horse_3 : decode cX0_horse 3 = .ok (.iload_n 1, 1) := dk_27 (dk_at dksX0_horse_0 3 rfl rfl)
theorem dX0_horse_4 : decode cX0_horse 4 = .ok (.iload_n 2, 1) := dk_28 (dk_at dksX0_horse_0 4 rfl rfl)
theorem dX0_horse_5 : decode cX0_horse 5 = .ok (.invokevirtual 7, 3) := dk_182 0 7 (dk_at dksX0_horse_0 5 rfl rfl)
theorem dX0_horse_8 : decode cX0_horse 8 = .ok (.i2l, 1) := dk_133 (dk_at dksX0_horse_0 8 rfl rfl)
theorem dX0_horse_9 : decode cX0_horse 9 = .ok (.lastore, 1) := dk_80 (dk_at dksX0_horse_0 9 rfl rfl)
theorem dX0_horse_10 : decode cX0_horse 10 = .ok (.goto 11, 3) := dk_167 0 11 (dk_at dksX0_horse_0 10 rfl rfl)
theorem dX0_horse_13 : decode cX0_horse 13 = .ok (.astore 4, 2) := dk_58 4 (dk_at dksX0_horse_0 13 rfl rfl)
theorem dX0_horse_15 : decode cX0_horse 15 = .ok (.iconst 1, 1) := dk_4 (dk_at dksX0_horse_0 15 rfl rfl)
theorem dX0_horse_16 : decode cX0_horse 16 = .ok (.ireturn, 1) := dk_172 (dk_at dksX0_horse_0 16 rfl rfl)
theorem dX0_horse_17 : decode cX0_horse 17 = .ok (.astore 4, 2) := dk_58 4 (dk_at dksX0_horse_0 17 rfl rfl)
theorem dX0_horse_19 : decode cX0_horse 19 = .ok (.iconst 2, 1) := dk_5 (dk_at dksX0_horse_0 19 rfl rfl)
theorem dX0_horse_20 : decode cX0_horse 20 = .ok (.ireturn, 1) := dk_172 (dk_at dksX0_horse_0 20 rfl rfl)
theorem dX0_horse_21 : decode cX0_horse 21 = .ok (.iconst 0, 1) := dk_3 (dk_at dksX0_horse_0 21 rfl rfl)
theorem dX0_horse_22 : decode cX0_horse 22 = .ok (.ireturn, 1) := dk_172 (dk_at dksX0_horse_0 22 rfl rfl)
theorem q122 : (Jvm.Cond.initialized "TroughTreatyLaw") ∈ lw_all := lw_g (lw_at lw_m1 0 rfl) rfl
theorem q164 : (Jvm.Cond.classLink "TroughTreatyLaw" (8 : Nat) "TroughTreaty") ∈ lw_all := lw_g (lw_at lw_m1 42 rfl) rfl
theorem q166 : (Jvm.Cond.methodLink "TroughTreatyLaw" (17 : Nat) ({ cls := "TroughTreaty", name := "<init>", desc := "()V" } : Jvm.MethodName)) ∈ lw_all := lw_g (lw_at lw_m1 44 rfl) rfl
theorem q491 : (Jvm.Cond.methodLink "TroughTreatyLaw" (21 : Nat) ({ cls := "TroughTreaty", name := "feed", desc := "(IIIII)I" } : Jvm.MethodName)) ∈ lw_all := lw_g (lw_at lw_m2 129 rfl) rfl
theorem q499 : (Jvm.Cond.methodLink "TroughTreatyLaw" (26 : Nat) ({ cls := "TroughTreaty", name := "text", desc := "(I)I" } : Jvm.MethodName)) ∈ lw_all := lw_g (lw_at lw_m2 137 rfl) rfl
theorem q1001 : (Jvm.Cond.methodLink "TroughTreatyLaw" (31 : Nat) ({ cls := "TroughTreaty", name := "fault", desc := "(I)I" } : Jvm.MethodName)) ∈ lw_all := lw_g (lw_at lw_m4 159 rfl) rfl
theorem q1005 : (Jvm.Cond.methodLink "TroughTreatyLaw" (35 : Nat) ({ cls := "TroughTreaty", name := "named", desc := "(II)I" } : Jvm.MethodName)) ∈ lw_all := lw_g (lw_at lw_m4 163 rfl) rfl
theorem q1010 : (Jvm.Cond.methodLink "TroughTreatyLaw" (49 : Nat) ({ cls := "TroughTreaty", name := "trough", desc := "(II)I" } : Jvm.MethodName)) ∈ lw_all := lw_g (lw_at lw_m4 168 rfl) rfl
theorem q1029 : (Jvm.Cond.methodLink "TroughTreatyLaw" (53 : Nat) ({ cls := "TroughTreaty", name := "law", desc := "(II)J" } : Jvm.MethodName)) ∈ lw_all := lw_g (lw_at lw_m4 187 rfl) rfl
theorem q1091 : (Jvm.Cond.methodLink "TroughTreatyLaw" (58 : Nat) ({ cls := "TroughTreaty", name := "send", desc := "(II)I" } : Jvm.MethodName)) ∈ lw_all := lw_g (lw_at lw_m5 9 rfl) rfl
theorem q1104 : (Jvm.Cond.methodLink "TroughTreatyLaw" (62 : Nat) ({ cls := "TroughTreaty", name := "fill", desc := "(II)I" } : Jvm.MethodName)) ∈ lw_all := lw_g (lw_at lw_m5 22 rfl) rfl
theorem q1110 : (Jvm.Cond.methodLink "TroughTreatyLaw" (66 : Nat) ({ cls := "TroughTreaty", name := "lead", desc := "(II)Z" } : Jvm.MethodName)) ∈ lw_all := lw_g (lw_at lw_m5 28 rfl) rfl
theorem q1114 : (Jvm.Cond.methodLink "TroughTreatyLaw" (71 : Nat) ({ cls := "TroughTreaty", name := "go", desc := "(I)I" } : Jvm.MethodName)) ∈ lw_all := lw_g (lw_at lw_m5 32 rfl) rfl
theorem q1190 : (Jvm.Cond.methodLink "TroughTreatyLaw" (75 : Nat) ({ cls := "TroughTreaty", name := "ahead", desc := "(III)I" } : Jvm.MethodName)) ∈ lw_all := lw_g (lw_at lw_m5 108 rfl) rfl
theorem q1206 : (Jvm.Cond.methodLink "TroughTreatyLaw" (80 : Nat) ({ cls := "TroughTreaty", name := "falls", desc := "(I)I" } : Jvm.MethodName)) ∈ lw_all := lw_g (lw_at lw_m5 124 rfl) rfl
theorem q1210 : (Jvm.Cond.methodLink "TroughTreatyLaw" (84 : Nat) ({ cls := "TroughTreaty", name := "nextFight", desc := "(I)I" } : Jvm.MethodName)) ∈ lw_all := lw_g (lw_at lw_m5 128 rfl) rfl
theorem q1214 : (Jvm.Cond.methodLink "TroughTreatyLaw" (140 : Nat) ({ cls := "TroughTreaty", name := "meet", desc := "(II)I" } : Jvm.MethodName)) ∈ lw_all := lw_g (lw_at lw_m5 132 rfl) rfl
theorem q1222 : (Jvm.Cond.methodLink "TroughTreatyLaw" (88 : Nat) ({ cls := "TroughTreaty", name := "sendIn", desc := "(III)I" } : Jvm.MethodName)) ∈ lw_all := lw_g (lw_at lw_m5 140 rfl) rfl
theorem q1226 : (Jvm.Cond.methodLink "TroughTreatyLaw" (92 : Nat) ({ cls := "TroughTreaty", name := "pump", desc := "(I)I" } : Jvm.MethodName)) ∈ lw_all := lw_g (lw_at lw_m5 144 rfl) rfl
theorem q1235 : (Jvm.Cond.methodLink "TroughTreatyLaw" (96 : Nat) ({ cls := "TroughTreaty", name := "stops", desc := "(II)I" } : Jvm.MethodName)) ∈ lw_all := lw_g (lw_at lw_m5 153 rfl) rfl
theorem q1252 : (Jvm.Cond.methodLink "TroughTreatyLaw" (100 : Nat) ({ cls := "TroughTreaty", name := "reach", desc := "(I)I" } : Jvm.MethodName)) ∈ lw_all := lw_g (lw_at lw_m5 170 rfl) rfl
theorem q1256 : (Jvm.Cond.methodLink "TroughTreatyLaw" (104 : Nat) ({ cls := "TroughTreaty", name := "cover", desc := "(I)I" } : Jvm.MethodName)) ∈ lw_all := lw_g (lw_at lw_m5 174 rfl) rfl
theorem q1265 : (Jvm.Cond.methodLink "TroughTreatyLaw" (108 : Nat) ({ cls := "TroughTreaty", name := "round", desc := "(I)I" } : Jvm.MethodName)) ∈ lw_all := lw_g (lw_at lw_m5 183 rfl) rfl
theorem q1270 : (Jvm.Cond.methodLink "TroughTreatyLaw" (144 : Nat) ({ cls := "TroughTreaty", name := "gather", desc := "(I)I" } : Jvm.MethodName)) ∈ lw_all := lw_g (lw_at lw_m5 188 rfl) rfl
theorem q1278 : (Jvm.Cond.methodLink "TroughTreatyLaw" (148 : Nat) ({ cls := "TroughTreaty", name := "sides", desc := "()I" } : Jvm.MethodName)) ∈ lw_all := lw_g (lw_at lw_m5 196 rfl) rfl
theorem q1282 : (Jvm.Cond.methodLink "TroughTreatyLaw" (152 : Nat) ({ cls := "TroughTreaty", name := "enemies", desc := "(I)I" } : Jvm.MethodName)) ∈ lw_all := lw_g (lw_at lw_m5 200 rfl) rfl
theorem q1286 : (Jvm.Cond.methodLink "TroughTreatyLaw" (156 : Nat) ({ cls := "TroughTreaty", name := "runsDry", desc := "(I)I" } : Jvm.MethodName)) ∈ lw_all := lw_g (lw_at lw_m5 204 rfl) rfl
theorem q1290 : (Jvm.Cond.methodLink "TroughTreatyLaw" (112 : Nat) ({ cls := "TroughTreaty", name := "rests", desc := "(II)I" } : Jvm.MethodName)) ∈ lw_all := lw_g (lw_at lw_m5 208 rfl) rfl
theorem q1306 : (Jvm.Cond.methodLink "TroughTreatyLaw" (116 : Nat) ({ cls := "TroughTreaty", name := "rest", desc := "(III)I" } : Jvm.MethodName)) ∈ lw_all := lw_g (lw_at lw_m5 224 rfl) rfl
theorem q1310 : (Jvm.Cond.methodLink "TroughTreatyLaw" (120 : Nat) ({ cls := "TroughTreaty", name := "staysDry", desc := "(II)J" } : Jvm.MethodName)) ∈ lw_all := lw_g (lw_at lw_m5 228 rfl) rfl
theorem q1320 : (Jvm.Cond.methodLink "TroughTreatyLaw" (124 : Nat) ({ cls := "TroughTreaty", name := "peace", desc := "(II)I" } : Jvm.MethodName)) ∈ lw_all := lw_g (lw_at lw_m5 238 rfl) rfl
theorem q1325 : (Jvm.Cond.methodLink "TroughTreatyLaw" (128 : Nat) ({ cls := "TroughTreaty", name := "thirstiest", desc := "()I" } : Jvm.MethodName)) ∈ lw_all := lw_g (lw_at lw_m6 3 rfl) rfl
theorem q1329 : (Jvm.Cond.methodLink "TroughTreatyLaw" (132 : Nat) ({ cls := "TroughTreaty", name := "driest", desc := "()I" } : Jvm.MethodName)) ∈ lw_all := lw_g (lw_at lw_m6 7 rfl) rfl
theorem q1333 : (Jvm.Cond.methodLink "TroughTreatyLaw" (136 : Nat) ({ cls := "TroughTreaty", name := "nearest", desc := "(I)I" } : Jvm.MethodName)) ∈ lw_all := lw_g (lw_at lw_m6 11 rfl) rfl
theorem q1337 : (Jvm.Cond.methodLink "TroughTreatyLaw" (160 : Nat) ({ cls := "TroughTreaty", name := "see", desc := "(IIIZ)I" } : Jvm.MethodName)) ∈ lw_all := lw_g (lw_at lw_m6 15 rfl) rfl
theorem q1368 : (Jvm.Cond.methodLink "TroughTreatyLaw" (165 : Nat) ({ cls := "TroughTreaty", name := "strike", desc := "(I)I" } : Jvm.MethodName)) ∈ lw_all := lw_g (lw_at lw_m6 46 rfl) rfl
theorem q1382 : (Jvm.Cond.methodLink "TroughTreatyLaw" (169 : Nat) ({ cls := "TroughTreaty", name := "known", desc := "(I)Z" } : Jvm.MethodName)) ∈ lw_all := lw_g (lw_at lw_m6 60 rfl) rfl
theorem q1386 : (Jvm.Cond.methodLink "TroughTreatyLaw" (174 : Nat) ({ cls := "TroughTreaty", name := "thirsts", desc := "(I)I" } : Jvm.MethodName)) ∈ lw_all := lw_g (lw_at lw_m6 64 rfl) rfl
theorem q1423 : (Jvm.Cond.methodLink "TroughTreatyLaw" (178 : Nat) ({ cls := "TroughTreaty", name := "chance", desc := "(IIII)I" } : Jvm.MethodName)) ∈ lw_all := lw_g (lw_at lw_m6 101 rfl) rfl
theorem q1427 : (Jvm.Cond.methodLink "TroughTreatyLaw" (183 : Nat) ({ cls := "TroughTreaty", name := "tried", desc := "(III)I" } : Jvm.MethodName)) ∈ lw_all := lw_g (lw_at lw_m6 105 rfl) rfl
theorem q1431 : (Jvm.Cond.methodLink "TroughTreatyLaw" (187 : Nat) ({ cls := "TroughTreaty", name := "undo", desc := "()I" } : Jvm.MethodName)) ∈ lw_all := lw_g (lw_at lw_m6 109 rfl) rfl
theorem q1435 : (Jvm.Cond.methodLink "TroughTreatyLaw" (191 : Nat) ({ cls := "TroughTreaty", name := "keep", desc := "()I" } : Jvm.MethodName)) ∈ lw_all := lw_g (lw_at lw_m6 113 rfl) rfl
theorem q1439 : (Jvm.Cond.methodLink "TroughTreatyLaw" (195 : Nat) ({ cls := "TroughTreaty", name := "back", desc := "()I" } : Jvm.MethodName)) ∈ lw_all := lw_g (lw_at lw_m6 117 rfl) rfl
theorem q1443 : (Jvm.Cond.methodLink "TroughTreatyLaw" (199 : Nat) ({ cls := "TroughTreaty", name := "count", desc := "(I)I" } : Jvm.MethodName)) ∈ lw_all := lw_g (lw_at lw_m6 121 rfl) rfl
theorem q1451 : (Jvm.Cond.methodLink "TroughTreatyLaw" (39 : Nat) ({ cls := "TroughTreatyLaw", name := "horse", desc := "(LTroughTreaty;II[J)I" } : Jvm.MethodName)) ∈ lw_all := lw_g (lw_at lw_m6 129 rfl) rfl
theorem q1452 : (Jvm.Cond.static ({ cls := "TroughTreatyLaw", name := "horse", desc := "(LTroughTreaty;II[J)I" } : Jvm.MethodName)) ∈ lw_all := lw_g (lw_at lw_m6 130 rfl) rfl
theorem q1453 : (Jvm.Cond.codeWith ({ cls := "TroughTreatyLaw", name := "horse", desc := "(LTroughTreaty;II[J)I" } : Jvm.MethodName) method_3_code (5 : Nat) (Option.some Jvm.ClassFile.FieldType.int) [((0 : Nat), (10 : Nat), (13 : Nat), (13 : Nat)), ((0 : Nat), (10 : Nat), (17 : Nat), (15 : Nat))]) ∈ lw_all := lw_g (lw_at lw_m6 131 rfl) rfl
theorem q1454 : (Jvm.Cond.classLink "TroughTreatyLaw" (13 : Nat) "java/lang/IndexOutOfBoundsException") ∈ lw_all := lw_g (lw_at lw_m6 132 rfl) rfl
theorem q1488 : (Jvm.Cond.classLink "TroughTreatyLaw" (15 : Nat) "java/util/NoSuchElementException") ∈ lw_all := lw_g (lw_at lw_m6 166 rfl) rfl
theorem q1489 : (Jvm.Cond.methodLink "TroughTreatyLaw" (7 : Nat) ({ cls := "TroughTreaty", name := "horse", desc := "(II)I" } : Jvm.MethodName)) ∈ lw_all := lw_g (lw_at lw_m6 167 rfl) rfl
theorem q1532 : (Jvm.Cond.classLink "TroughTreatyLaw" (18 : Nat) "TroughTreatyModel") ∈ lw_all := lw_g (lw_at lw_m6 210 rfl) rfl
theorem q1534 : (Jvm.Cond.methodLink "TroughTreatyLaw" (20 : Nat) ({ cls := "TroughTreatyModel", name := "<init>", desc := "()V" } : Jvm.MethodName)) ∈ lw_all := lw_g (lw_at lw_m6 212 rfl) rfl
theorem q1814 : (Jvm.Cond.methodLink "TroughTreatyLaw" (45 : Nat) ({ cls := "TroughTreatyModel", name := "thrown", desc := "()I" } : Jvm.MethodName)) ∈ lw_all := lw_g (lw_at lw_m8 12 rfl) rfl
theorem q1818 : (Jvm.Cond.methodLink "TroughTreatyLaw" (25 : Nat) ({ cls := "TroughTreatyModel", name := "feed", desc := "(IIIII)I" } : Jvm.MethodName)) ∈ lw_all := lw_g (lw_at lw_m8 16 rfl) rfl
theorem q1822 : (Jvm.Cond.methodLink "TroughTreatyLaw" (30 : Nat) ({ cls := "TroughTreatyModel", name := "text", desc := "(I)I" } : Jvm.MethodName)) ∈ lw_all := lw_g (lw_at lw_m8 20 rfl) rfl
theorem q1944 : (Jvm.Cond.methodLink "TroughTreatyLaw" (34 : Nat) ({ cls := "TroughTreatyModel", name := "fault", desc := "(I)I" } : Jvm.MethodName)) ∈ lw_all := lw_g (lw_at lw_m8 142 rfl) rfl
theorem q1948 : (Jvm.Cond.methodLink "TroughTreatyLaw" (38 : Nat) ({ cls := "TroughTreatyModel", name := "named", desc := "(II)I" } : Jvm.MethodName)) ∈ lw_all := lw_g (lw_at lw_m8 146 rfl) rfl
theorem q1952 : (Jvm.Cond.methodLink "TroughTreatyLaw" (44 : Nat) ({ cls := "TroughTreatyModel", name := "horse", desc := "(II)I" } : Jvm.MethodName)) ∈ lw_all := lw_g (lw_at lw_m8 150 rfl) rfl
theorem q1964 : (Jvm.Cond.methodLink "TroughTreatyLaw" (52 : Nat) ({ cls := "TroughTreatyModel", name := "trough", desc := "(II)I" } : Jvm.MethodName)) ∈ lw_all := lw_g (lw_at lw_m8 162 rfl) rfl
theorem q1972 : (Jvm.Cond.methodLink "TroughTreatyLaw" (57 : Nat) ({ cls := "TroughTreatyModel", name := "law", desc := "(II)J" } : Jvm.MethodName)) ∈ lw_all := lw_g (lw_at lw_m8 170 rfl) rfl
theorem q2017 : (Jvm.Cond.methodLink "TroughTreatyLaw" (61 : Nat) ({ cls := "TroughTreatyModel", name := "send", desc := "(II)I" } : Jvm.MethodName)) ∈ lw_all := lw_g (lw_at lw_m8 215 rfl) rfl
theorem q2029 : (Jvm.Cond.methodLink "TroughTreatyLaw" (65 : Nat) ({ cls := "TroughTreatyModel", name := "fill", desc := "(II)I" } : Jvm.MethodName)) ∈ lw_all := lw_g (lw_at lw_m8 227 rfl) rfl
theorem q2033 : (Jvm.Cond.methodLink "TroughTreatyLaw" (70 : Nat) ({ cls := "TroughTreatyModel", name := "lead", desc := "(II)Z" } : Jvm.MethodName)) ∈ lw_all := lw_g (lw_at lw_m8 231 rfl) rfl
theorem q2037 : (Jvm.Cond.methodLink "TroughTreatyLaw" (74 : Nat) ({ cls := "TroughTreatyModel", name := "go", desc := "(I)I" } : Jvm.MethodName)) ∈ lw_all := lw_g (lw_at lw_m8 235 rfl) rfl
theorem q2078 : (Jvm.Cond.methodLink "TroughTreatyLaw" (79 : Nat) ({ cls := "TroughTreatyModel", name := "ahead", desc := "(III)I" } : Jvm.MethodName)) ∈ lw_all := lw_g (lw_at lw_m9 36 rfl) rfl
theorem q2094 : (Jvm.Cond.methodLink "TroughTreatyLaw" (83 : Nat) ({ cls := "TroughTreatyModel", name := "falls", desc := "(I)I" } : Jvm.MethodName)) ∈ lw_all := lw_g (lw_at lw_m9 52 rfl) rfl
theorem q2098 : (Jvm.Cond.methodLink "TroughTreatyLaw" (87 : Nat) ({ cls := "TroughTreatyModel", name := "nextFight", desc := "(I)I" } : Jvm.MethodName)) ∈ lw_all := lw_g (lw_at lw_m9 56 rfl) rfl
theorem q2102 : (Jvm.Cond.methodLink "TroughTreatyLaw" (143 : Nat) ({ cls := "TroughTreatyModel", name := "meet", desc := "(II)I" } : Jvm.MethodName)) ∈ lw_all := lw_g (lw_at lw_m9 60 rfl) rfl
theorem q2110 : (Jvm.Cond.methodLink "TroughTreatyLaw" (91 : Nat) ({ cls := "TroughTreatyModel", name := "sendIn", desc := "(III)I" } : Jvm.MethodName)) ∈ lw_all := lw_g (lw_at lw_m9 68 rfl) rfl
theorem q2114 : (Jvm.Cond.methodLink "TroughTreatyLaw" (95 : Nat) ({ cls := "TroughTreatyModel", name := "pump", desc := "(I)I" } : Jvm.MethodName)) ∈ lw_all := lw_g (lw_at lw_m9 72 rfl) rfl
theorem q2124 : (Jvm.Cond.methodLink "TroughTreatyLaw" (99 : Nat) ({ cls := "TroughTreatyModel", name := "stops", desc := "(II)I" } : Jvm.MethodName)) ∈ lw_all := lw_g (lw_at lw_m9 82 rfl) rfl
theorem q2132 : (Jvm.Cond.methodLink "TroughTreatyLaw" (103 : Nat) ({ cls := "TroughTreatyModel", name := "reach", desc := "(I)I" } : Jvm.MethodName)) ∈ lw_all := lw_g (lw_at lw_m9 90 rfl) rfl
theorem q2136 : (Jvm.Cond.methodLink "TroughTreatyLaw" (107 : Nat) ({ cls := "TroughTreatyModel", name := "cover", desc := "(I)I" } : Jvm.MethodName)) ∈ lw_all := lw_g (lw_at lw_m9 94 rfl) rfl
theorem q2144 : (Jvm.Cond.methodLink "TroughTreatyLaw" (111 : Nat) ({ cls := "TroughTreatyModel", name := "round", desc := "(I)I" } : Jvm.MethodName)) ∈ lw_all := lw_g (lw_at lw_m9 102 rfl) rfl
theorem q2148 : (Jvm.Cond.methodLink "TroughTreatyLaw" (147 : Nat) ({ cls := "TroughTreatyModel", name := "gather", desc := "(I)I" } : Jvm.MethodName)) ∈ lw_all := lw_g (lw_at lw_m9 106 rfl) rfl
theorem q2152 : (Jvm.Cond.methodLink "TroughTreatyLaw" (151 : Nat) ({ cls := "TroughTreatyModel", name := "sides", desc := "()I" } : Jvm.MethodName)) ∈ lw_all := lw_g (lw_at lw_m9 110 rfl) rfl
theorem q2156 : (Jvm.Cond.methodLink "TroughTreatyLaw" (155 : Nat) ({ cls := "TroughTreatyModel", name := "enemies", desc := "(I)I" } : Jvm.MethodName)) ∈ lw_all := lw_g (lw_at lw_m9 114 rfl) rfl
theorem q2160 : (Jvm.Cond.methodLink "TroughTreatyLaw" (159 : Nat) ({ cls := "TroughTreatyModel", name := "runsDry", desc := "(I)I" } : Jvm.MethodName)) ∈ lw_all := lw_g (lw_at lw_m9 118 rfl) rfl
theorem q2164 : (Jvm.Cond.methodLink "TroughTreatyLaw" (115 : Nat) ({ cls := "TroughTreatyModel", name := "rests", desc := "(II)I" } : Jvm.MethodName)) ∈ lw_all := lw_g (lw_at lw_m9 122 rfl) rfl
theorem q2176 : (Jvm.Cond.methodLink "TroughTreatyLaw" (119 : Nat) ({ cls := "TroughTreatyModel", name := "rest", desc := "(III)I" } : Jvm.MethodName)) ∈ lw_all := lw_g (lw_at lw_m9 134 rfl) rfl
theorem q2180 : (Jvm.Cond.methodLink "TroughTreatyLaw" (123 : Nat) ({ cls := "TroughTreatyModel", name := "staysDry", desc := "(II)J" } : Jvm.MethodName)) ∈ lw_all := lw_g (lw_at lw_m9 138 rfl) rfl
theorem q2186 : (Jvm.Cond.methodLink "TroughTreatyLaw" (127 : Nat) ({ cls := "TroughTreatyModel", name := "peace", desc := "(II)I" } : Jvm.MethodName)) ∈ lw_all := lw_g (lw_at lw_m9 144 rfl) rfl
theorem q2190 : (Jvm.Cond.methodLink "TroughTreatyLaw" (131 : Nat) ({ cls := "TroughTreatyModel", name := "thirstiest", desc := "()I" } : Jvm.MethodName)) ∈ lw_all := lw_g (lw_at lw_m9 148 rfl) rfl
theorem q2194 : (Jvm.Cond.methodLink "TroughTreatyLaw" (135 : Nat) ({ cls := "TroughTreatyModel", name := "driest", desc := "()I" } : Jvm.MethodName)) ∈ lw_all := lw_g (lw_at lw_m9 152 rfl) rfl
theorem q2198 : (Jvm.Cond.methodLink "TroughTreatyLaw" (139 : Nat) ({ cls := "TroughTreatyModel", name := "nearest", desc := "(I)I" } : Jvm.MethodName)) ∈ lw_all := lw_g (lw_at lw_m9 156 rfl) rfl
theorem q2202 : (Jvm.Cond.methodLink "TroughTreatyLaw" (164 : Nat) ({ cls := "TroughTreatyModel", name := "see", desc := "(IIIZ)I" } : Jvm.MethodName)) ∈ lw_all := lw_g (lw_at lw_m9 160 rfl) rfl
theorem q2210 : (Jvm.Cond.methodLink "TroughTreatyLaw" (168 : Nat) ({ cls := "TroughTreatyModel", name := "strike", desc := "(I)I" } : Jvm.MethodName)) ∈ lw_all := lw_g (lw_at lw_m9 168 rfl) rfl
theorem q2214 : (Jvm.Cond.methodLink "TroughTreatyLaw" (173 : Nat) ({ cls := "TroughTreatyModel", name := "known", desc := "(I)Z" } : Jvm.MethodName)) ∈ lw_all := lw_g (lw_at lw_m9 172 rfl) rfl
theorem q2218 : (Jvm.Cond.methodLink "TroughTreatyLaw" (177 : Nat) ({ cls := "TroughTreatyModel", name := "thirsts", desc := "(I)I" } : Jvm.MethodName)) ∈ lw_all := lw_g (lw_at lw_m9 176 rfl) rfl
theorem q2234 : (Jvm.Cond.methodLink "TroughTreatyLaw" (182 : Nat) ({ cls := "TroughTreatyModel", name := "chance", desc := "(IIII)I" } : Jvm.MethodName)) ∈ lw_all := lw_g (lw_at lw_m9 192 rfl) rfl
theorem q2238 : (Jvm.Cond.methodLink "TroughTreatyLaw" (186 : Nat) ({ cls := "TroughTreatyModel", name := "tried", desc := "(III)I" } : Jvm.MethodName)) ∈ lw_all := lw_g (lw_at lw_m9 196 rfl) rfl
theorem q2242 : (Jvm.Cond.methodLink "TroughTreatyLaw" (190 : Nat) ({ cls := "TroughTreatyModel", name := "undo", desc := "()I" } : Jvm.MethodName)) ∈ lw_all := lw_g (lw_at lw_m9 200 rfl) rfl
theorem q2250 : (Jvm.Cond.methodLink "TroughTreatyLaw" (194 : Nat) ({ cls := "TroughTreatyModel", name := "keep", desc := "()I" } : Jvm.MethodName)) ∈ lw_all := lw_g (lw_at lw_m9 208 rfl) rfl
theorem q2254 : (Jvm.Cond.methodLink "TroughTreatyLaw" (198 : Nat) ({ cls := "TroughTreatyModel", name := "back", desc := "()I" } : Jvm.MethodName)) ∈ lw_all := lw_g (lw_at lw_m9 212 rfl) rfl
theorem q2258 : (Jvm.Cond.methodLink "TroughTreatyLaw" (202 : Nat) ({ cls := "TroughTreatyModel", name := "count", desc := "(I)I" } : Jvm.MethodName)) ∈ lw_all := lw_g (lw_at lw_m9 216 rfl) rfl

/-! TroughTreaty$Reader -/
set_option maxRecDepth 100000
def RX2 : String := "TroughTreaty$Reader"
def TX2 : u_T := fun k => match k with
  | 0 => ("TroughTreaty$Reader", "at", "I", false)
  | 1 => ("TroughTreaty$Reader", "size", "I", false)
  | 2 => ("TroughTreaty$Reader", "place", "I", false)
  | 3 => ("TroughTreaty$Reader", "sort", "I", false)
  | 4 => ("TroughTreaty$Reader", "value", "I", false)
  | 5 => ("TroughTreaty$Reader", "open", "I", false)
  | 6 => ("TroughTreaty$Reader", "told", "I", false)
  | 7 => ("TroughTreaty$Reader", "made", "LTroughTreaty$Road;", false)
  | _ => ("TroughTreaty$Reader", "this$0", "LTroughTreaty;", true)
def tyX2 : Nat → FieldType := fun k => match k with
  | 0 => .int
  | 1 => .int
  | 2 => .int
  | 3 => .int
  | 4 => .int
  | 5 => .int
  | 6 => .int
  | 7 => .object "TroughTreaty$Road"
  | _ => .object "TroughTreaty"
abbrev wsX20 : List Cond := u_ws RX2 TX2 9
theorem nmX2 : ∀ a, a < 9 → ∀ b, b < 9 → a ≠ b → (TX2 a).2.1 ≠ (TX2 b).2.1 := by decide +kernel
theorem tyX2_ok : ∀ k, k < 9 → parseFieldDescriptor (TX2 k).2.2.1 = some (tyX2 k) := by decide +kernel
abbrev cX2_init : ByteArray := prog_14_method_1_code
def yX2_init : MethodName := ⟨RX2, "<init>", "(LTroughTreaty;)V"⟩
def dkwX2_init_0 : List UInt8 := [42, 43, 181, 0, 3, 42, 183, 0, 9, 177]
abbrev dktX2_init_0 : List UInt8 := dkwX2_init_0 ++ []
theorem dksX2_init_0 : cX2_init.data.toList.drop 0 = dktX2_init_0 := by decide +kernel
theorem dX2_init_0 : decode cX2_init 0 = .ok (.aload_n 0, 1) := dk_42 (dk_at dksX2_init_0 0 rfl rfl)
theorem dX2_init_1 : decode cX2_init 1 = .ok (.aload_n 1, 1) := dk_43 (dk_at dksX2_init_0 1 rfl rfl)
theorem dX2_init_2 : decode cX2_init 2 = .ok (.putfield 3, 3) := dk_181 0 3 (dk_at dksX2_init_0 2 rfl rfl)
theorem dX2_init_5 : decode cX2_init 5 = .ok (.aload_n 0, 1) := dk_42 (dk_at dksX2_init_0 5 rfl rfl)
theorem dX2_init_6 : decode cX2_init 6 = .ok (.invokespecial 9, 3) := dk_183 0 9 (dk_at dksX2_init_0 6 rfl rfl)
theorem dX2_init_9 : decode cX2_init 9 = .ok (.return_, 1) := dk_177 (dk_at dksX2_init_0 9 rfl rfl)
abbrev cX2_read : ByteArray := prog_14_method_13_code
def yX2_read : MethodName := ⟨RX2, "read", "(I)LTroughTreaty$Road;"⟩
def dkwX2_read_2 : List UInt8 := [167, 255, 244, 42, 180, 0, 111, 176]
abbrev dktX2_read_2 : List UInt8 := dkwX2_read_2 ++ []
def dkwX2_read_1 : List UInt8 := [89, 183, 0, 110, 181, 0, 111, 42, 182, 0, 93, 42, 180, 0, 33, 7, 159, 0, 10, 42, 182, 0, 115]
abbrev dktX2_read_1 : List UInt8 := dkwX2_read_1 ++ dktX2_read_2
def dkwX2_read_0 : List UInt8 := [42, 3, 181, 0, 15, 42, 27, 181, 0, 19, 42, 3, 181, 0, 102, 42, 3, 181, 0, 105, 42, 187, 0, 108]
abbrev dktX2_read_0 : List UInt8 := dkwX2_read_0 ++ dktX2_read_1
theorem dksX2_read_0 : cX2_read.data.toList.drop 0 = dktX2_read_0 := by decide +kernel
theorem dksX2_read_1 : cX2_read.data.toList.drop 24 = dktX2_read_1 := dk_seg dksX2_read_0 24 rfl rfl
theorem dksX2_read_2 : cX2_read.data.toList.drop 47 = dktX2_read_2 := dk_seg dksX2_read_1 23 rfl rfl
theorem dX2_read_0 : decode cX2_read 0 = .ok (.aload_n 0, 1) := dk_42 (dk_at dksX2_read_0 0 rfl rfl)
theorem dX2_read_1 : decode cX2_read 1 = .ok (.iconst 0, 1) := dk_3 (dk_at dksX2_read_0 1 rfl rfl)
theorem dX2_read_2 : decode cX2_read 2 = .ok (.putfield 15, 3) := dk_181 0 15 (dk_at dksX2_read_0 2 rfl rfl)
theorem dX2_read_5 : decode cX2_read 5 = .ok (.aload_n 0, 1) := dk_42 (dk_at dksX2_read_0 5 rfl rfl)
theorem dX2_read_6 : decode cX2_read 6 = .ok (.iload_n 1, 1) := dk_27 (dk_at dksX2_read_0 6 rfl rfl)
theorem dX2_read_7 : decode cX2_read 7 = .ok (.putfield 19, 3) := dk_181 0 19 (dk_at dksX2_read_0 7 rfl rfl)
theorem dX2_read_10 : decode cX2_read 10 = .ok (.aload_n 0, 1) := dk_42 (dk_at dksX2_read_0 10 rfl rfl)
theorem dX2_read_11 : decode cX2_read 11 = .ok (.iconst 0, 1) := dk_3 (dk_at dksX2_read_0 11 rfl rfl)
theorem dX2_read_12 : decode cX2_read 12 = .ok (.putfield 102, 3) := dk_181 0 102 (dk_at dksX2_read_0 12 rfl rfl)
theorem dX2_read_15 : decode cX2_read 15 = .ok (.aload_n 0, 1) := dk_42 (dk_at dksX2_read_0 15 rfl rfl)
theorem dX2_read_16 : decode cX2_read 16 = .ok (.iconst 0, 1) := dk_3 (dk_at dksX2_read_0 16 rfl rfl)
theorem dX2_read_17 : decode cX2_read 17 = .ok (.putfield 105, 3) := dk_181 0 105 (dk_at dksX2_read_0 17 rfl rfl)
theorem dX2_read_20 : decode cX2_read 20 = .ok (.aload_n 0, 1) := dk_42 (dk_at dksX2_read_0 20 rfl rfl)
theorem dX2_read_21 : decode cX2_read 21 = .ok (.new 108, 3) := dk_187 0 108 (dk_at dksX2_read_0 21 rfl rfl)
theorem dX2_read_24 : decode cX2_read 24 = .ok (.dup, 1) := dk_89 (dk_at dksX2_read_1 0 rfl rfl)
theorem dX2_read_25 : decode cX2_read 25 = .ok (.invokespecial 110, 3) := dk_183 0 110 (dk_at dksX2_read_1 1 rfl rfl)
theorem dX2_read_28 : decode cX2_read 28 = .ok (.putfield 111, 3) := dk_181 0 111 (dk_at dksX2_read_1 4 rfl rfl)
theorem dX2_read_31 : decode cX2_read 31 = .ok (.aload_n 0, 1) := dk_42 (dk_at dksX2_read_1 7 rfl rfl)
theorem dX2_read_32 : decode cX2_read 32 = .ok (.invokevirtual 93, 3) := dk_182 0 93 (dk_at dksX2_read_1 8 rfl rfl)
theorem dX2_read_35 : decode cX2_read 35 = .ok (.aload_n 0, 1) := dk_42 (dk_at dksX2_read_1 11 rfl rfl)
theorem dX2_read_36 : decode cX2_read 36 = .ok (.getfield 33, 3) := dk_180 0 33 (dk_at dksX2_read_1 12 rfl rfl)
theorem dX2_read_39 : decode cX2_read 39 = .ok (.iconst 4, 1) := dk_7 (dk_at dksX2_read_1 15 rfl rfl)
theorem dX2_read_40 : decode cX2_read 40 = .ok (.if_icmp .eq 10, 3) := dk_159 0 10 (dk_at dksX2_read_1 16 rfl rfl)
theorem dX2_read_43 : decode cX2_read 43 = .ok (.aload_n 0, 1) := dk_42 (dk_at dksX2_read_1 19 rfl rfl)
theorem dX2_read_44 : decode cX2_read 44 = .ok (.invokevirtual 115, 3) := dk_182 0 115 (dk_at dksX2_read_1 20 rfl rfl)
theorem dX2_read_47 : decode cX2_read 47 = .ok (.goto (-12), 3) := dk_167 255 244 (dk_at dksX2_read_2 0 rfl rfl)
theorem dX2_read_50 : decode cX2_read 50 = .ok (.aload_n 0, 1) := dk_42 (dk_at dksX2_read_2 3 rfl rfl)
theorem dX2_read_51 : decode cX2_read 51 = .ok (.getfield 111, 3) := dk_180 0 111 (dk_at dksX2_read_2 4 rfl rfl)
theorem dX2_read_54 : decode cX2_read 54 = .ok (.areturn, 1) := dk_176 (dk_at dksX2_read_2 7 rfl rfl)
abbrev cX2_next : ByteArray := prog_14_method_3_code
def yX2_next : MethodName := ⟨RX2, "next", "()V"⟩
def dkwX2_next_11 : List UInt8 := [181, 0, 15, 167, 255, 194, 42, 182, 0, 58, 177]
abbrev dktX2_next_11 : List UInt8 := dkwX2_next_11 ++ []
def dkwX2_next_10 : List UInt8 := [180, 0, 47, 104, 42, 182, 0, 26, 96, 16, 48, 100, 181, 0, 47, 42, 89, 180, 0, 15, 4, 96]
abbrev dktX2_next_10 : List UInt8 := dkwX2_next_10 ++ dktX2_next_11
def dkwX2_next_9 : List UInt8 := [153, 0, 55, 42, 42, 180, 0, 47, 18, 57, 164, 0, 10, 42, 180, 0, 47, 167, 0, 18, 16, 10, 42]
abbrev dktX2_next_9 : List UInt8 := dkwX2_next_9 ++ dktX2_next_10
def dkwX2_next_8 : List UInt8 := [181, 0, 33, 42, 3, 181, 0, 47, 42, 182, 0, 26, 133, 20, 0, 53, 20, 0, 55, 184, 0, 40]
abbrev dktX2_next_8 : List UInt8 := dkwX2_next_8 ++ dktX2_next_9
def dkwX2_next_7 : List UInt8 := [167, 0, 99, 42, 182, 0, 26, 133, 20, 0, 53, 20, 0, 55, 184, 0, 40, 153, 0, 78, 42, 5]
abbrev dktX2_next_7 : List UInt8 := dkwX2_next_7 ++ dktX2_next_8
def dkwX2_next_6 : List UInt8 := [164, 0, 7, 8, 167, 0, 4, 4, 181, 0, 33, 42, 180, 0, 33, 4, 160, 0, 106, 42, 182, 0, 50]
abbrev dktX2_next_6 : List UInt8 := dkwX2_next_6 ++ dktX2_next_7
def dkwX2_next_5 : List UInt8 := [180, 0, 47, 2, 159, 0, 7, 3, 167, 0, 22, 42, 180, 0, 15, 42, 180, 0, 30, 100, 16, 6]
abbrev dktX2_next_5 : List UInt8 := dkwX2_next_5 ++ dktX2_next_6
def dkwX2_next_4 : List UInt8 := [89, 180, 0, 15, 4, 96, 181, 0, 15, 167, 255, 229, 42, 42, 182, 0, 44, 181, 0, 47, 42, 42]
abbrev dktX2_next_4 : List UInt8 := dkwX2_next_4 ++ dktX2_next_5
def dkwX2_next_3 : List UInt8 := [184, 0, 40, 153, 0, 91, 42, 182, 0, 26, 133, 20, 0, 36, 20, 0, 38, 184, 0, 40, 153, 0, 16, 42]
abbrev dktX2_next_3 : List UInt8 := dkwX2_next_3 ++ dktX2_next_4
def dkwX2_next_2 : List UInt8 := [160, 0, 11, 42, 7, 181, 0, 33, 167, 0, 204, 42, 182, 0, 26, 133, 20, 0, 36, 20, 0, 38]
abbrev dktX2_next_2 : List UInt8 := dkwX2_next_2 ++ dktX2_next_3
def dkwX2_next_1 : List UInt8 := [96, 181, 0, 15, 167, 255, 228, 42, 42, 180, 0, 15, 181, 0, 30, 42, 180, 0, 15, 42, 180, 0, 19]
abbrev dktX2_next_1 : List UInt8 := dkwX2_next_1 ++ dktX2_next_2
def dkwX2_next_0 : List UInt8 := [42, 182, 0, 26, 16, 10, 159, 0, 12, 42, 182, 0, 26, 16, 32, 160, 0, 16, 42, 89, 180, 0, 15, 4]
abbrev dktX2_next_0 : List UInt8 := dkwX2_next_0 ++ dktX2_next_1
theorem dksX2_next_0 : cX2_next.data.toList.drop 0 = dktX2_next_0 := by decide +kernel
theorem dksX2_next_1 : cX2_next.data.toList.drop 24 = dktX2_next_1 := dk_seg dksX2_next_0 24 rfl rfl
theorem dksX2_next_2 : cX2_next.data.toList.drop 47 = dktX2_next_2 := dk_seg dksX2_next_1 23 rfl rfl
theorem dksX2_next_3 : cX2_next.data.toList.drop 69 = dktX2_next_3 := dk_seg dksX2_next_2 22 rfl rfl
theorem dksX2_next_4 : cX2_next.data.toList.drop 93 = dktX2_next_4 := dk_seg dksX2_next_3 24 rfl rfl
theorem dksX2_next_5 : cX2_next.data.toList.drop 115 = dktX2_next_5 := dk_seg dksX2_next_4 22 rfl rfl
theorem dksX2_next_6 : cX2_next.data.toList.drop 137 = dktX2_next_6 := dk_seg dksX2_next_5 22 rfl rfl
theorem dksX2_next_7 : cX2_next.data.toList.drop 160 = dktX2_next_7 := dk_seg dksX2_next_6 23 rfl rfl
theorem dksX2_next_8 : cX2_next.data.toList.drop 182 = dktX2_next_8 := dk_seg dksX2_next_7 22 rfl rfl
theorem dksX2_next_9 : cX2_next.data.toList.drop 204 = dktX2_next_9 := dk_seg dksX2_next_8 22 rfl rfl
theorem dksX2_next_10 : cX2_next.data.toList.drop 227 = dktX2_next_10 := dk_seg dksX2_next_9 23 rfl rfl
theorem dksX2_next_11 : cX2_next.data.toList.drop 249 = dktX2_next_11 := dk_seg dksX2_next_10 22 rfl rfl
theorem dX2_next_0 : decode cX2_next 0 = .ok (.aload_n 0, 1) := dk_42 (dk_at dksX2_next_0 0 rfl rfl)
theorem dX2_next_1 : decode cX2_next 1 = .ok (.invokevirtual 26, 3) := dk_182 0 26 (dk_at dksX2_next_0 1 rfl rfl)
theorem dX2_next_4 : decode cX2_next 4 = .ok (.bipush 10, 2) := dk_16 10 (dk_at dksX2_next_0 4 rfl rfl)
theorem dX2_next_6 : decode cX2_next 6 = .ok (.if_icmp .eq 12, 3) := dk_159 0 12 (dk_at dksX2_next_0 6 rfl rfl)
theorem dX2_next_9 : decode cX2_next 9 = .ok (.aload_n 0, 1) := dk_42 (dk_at dksX2_next_0 9 rfl rfl)
theorem dX2_next_10 : decode cX2_next 10 = .ok (.invokevirtual 26, 3) := dk_182 0 26 (dk_at dksX2_next_0 10 rfl rfl)
theorem dX2_next_13 : decode cX2_next 13 = .ok (.bipush 32, 2) := dk_16 32 (dk_at dksX2_next_0 13 rfl rfl)
theorem dX2_next_15 : decode cX2_next 15 = .ok (.if_icmp .ne 16, 3) := dk_160 0 16 (dk_at dksX2_next_0 15 rfl rfl)
theorem dX2_next_18 : decode cX2_next 18 = .ok (.aload_n 0, 1) := dk_42 (dk_at dksX2_next_0 18 rfl rfl)
theorem dX2_next_19 : decode cX2_next 19 = .ok (.dup, 1) := dk_89 (dk_at dksX2_next_0 19 rfl rfl)
theorem dX2_next_20 : decode cX2_next 20 = .ok (.getfield 15, 3) := dk_180 0 15 (dk_at dksX2_next_0 20 rfl rfl)
theorem dX2_next_23 : decode cX2_next 23 = .ok (.iconst 1, 1) := dk_4 (dk_at dksX2_next_0 23 rfl rfl)
theorem dX2_next_24 : decode cX2_next 24 = .ok (.iadd, 1) := dk_96 (dk_at dksX2_next_1 0 rfl rfl)
theorem dX2_next_25 : decode cX2_next 25 = .ok (.putfield 15, 3) := dk_181 0 15 (dk_at dksX2_next_1 1 rfl rfl)
theorem dX2_next_28 : decode cX2_next 28 = .ok (.goto (-28), 3) := dk_167 255 228 (dk_at dksX2_next_1 4 rfl rfl)
theorem dX2_next_31 : decode cX2_next 31 = .ok (.aload_n 0, 1) := dk_42 (dk_at dksX2_next_1 7 rfl rfl)
theorem dX2_next_32 : decode cX2_next 32 = .ok (.aload_n 0, 1) := dk_42 (dk_at dksX2_next_1 8 rfl rfl)
theorem dX2_next_33 : decode cX2_next 33 = .ok (.getfield 15, 3) := dk_180 0 15 (dk_at dksX2_next_1 9 rfl rfl)
theorem dX2_next_36 : decode cX2_next 36 = .ok (.putfield 30, 3) := dk_181 0 30 (dk_at dksX2_next_1 12 rfl rfl)
theorem dX2_next_39 : decode cX2_next 39 = .ok (.aload_n 0, 1) := dk_42 (dk_at dksX2_next_1 15 rfl rfl)
theorem dX2_next_40 : decode cX2_next 40 = .ok (.getfield 15, 3) := dk_180 0 15 (dk_at dksX2_next_1 16 rfl rfl)
theorem dX2_next_43 : decode cX2_next 43 = .ok (.aload_n 0, 1) := dk_42 (dk_at dksX2_next_1 19 rfl rfl)
theorem dX2_next_44 : decode cX2_next 44 = .ok (.getfield 19, 3) := dk_180 0 19 (dk_at dksX2_next_1 20 rfl rfl)
theorem dX2_next_47 : decode cX2_next 47 = .ok (.if_icmp .ne 11, 3) := dk_160 0 11 (dk_at dksX2_next_2 0 rfl rfl)
theorem dX2_next_50 : decode cX2_next 50 = .ok (.aload_n 0, 1) := dk_42 (dk_at dksX2_next_2 3 rfl rfl)
theorem dX2_next_51 : decode cX2_next 51 = .ok (.iconst 4, 1) := dk_7 (dk_at dksX2_next_2 4 rfl rfl)
theorem dX2_next_52 : decode cX2_next 52 = .ok (.putfield 33, 3) := dk_181 0 33 (dk_at dksX2_next_2 5 rfl rfl)
theorem dX2_next_55 : decode cX2_next 55 = .ok (.goto 204, 3) := dk_167 0 204 (dk_at dksX2_next_2 8 rfl rfl)
theorem dX2_next_58 : decode cX2_next 58 = .ok (.aload_n 0, 1) := dk_42 (dk_at dksX2_next_2 11 rfl rfl)
theorem dX2_next_59 : decode cX2_next 59 = .ok (.invokevirtual 26, 3) := dk_182 0 26 (dk_at dksX2_next_2 12 rfl rfl)
theorem dX2_next_62 : decode cX2_next 62 = .ok (.i2l, 1) := dk_133 (dk_at dksX2_next_2 15 rfl rfl)
theorem dX2_next_63 : decode cX2_next 63 = .ok (.ldc2_w 36, 3) := dk_20 0 36 (dk_at dksX2_next_2 16 rfl rfl)
theorem dX2_next_66 : decode cX2_next 66 = .ok (.ldc2_w 38, 3) := dk_20 0 38 (dk_at dksX2_next_2 19 rfl rfl)
theorem dX2_next_69 : decode cX2_next 69 = .ok (.invokestatic 40, 3) := dk_184 0 40 (dk_at dksX2_next_3 0 rfl rfl)
theorem dX2_next_72 : decode cX2_next 72 = .ok (.ifCond .eq 91, 3) := dk_153 0 91 (dk_at dksX2_next_3 3 rfl rfl)
theorem dX2_next_75 : decode cX2_next 75 = .ok (.aload_n 0, 1) := dk_42 (dk_at dksX2_next_3 6 rfl rfl)
theorem dX2_next_76 : decode cX2_next 76 = .ok (.invokevirtual 26, 3) := dk_182 0 26 (dk_at dksX2_next_3 7 rfl rfl)
theorem dX2_next_79 : decode cX2_next 79 = .ok (.i2l, 1) := dk_133 (dk_at dksX2_next_3 10 rfl rfl)
theorem dX2_next_80 : decode cX2_next 80 = .ok (.ldc2_w 36, 3) := dk_20 0 36 (dk_at dksX2_next_3 11 rfl rfl)
theorem dX2_next_83 : decode cX2_next 83 = .ok (.ldc2_w 38, 3) := dk_20 0 38 (dk_at dksX2_next_3 14 rfl rfl)
theorem dX2_next_86 : decode cX2_next 86 = .ok (.invokestatic 40, 3) := dk_184 0 40 (dk_at dksX2_next_3 17 rfl rfl)
theorem dX2_next_89 : decode cX2_next 89 = .ok (.ifCond .eq 16, 3) := dk_153 0 16 (dk_at dksX2_next_3 20 rfl rfl)
theorem dX2_next_92 : decode cX2_next 92 = .ok (.aload_n 0, 1) := dk_42 (dk_at dksX2_next_3 23 rfl rfl)
theorem dX2_next_93 : decode cX2_next 93 = .ok (.dup, 1) := dk_89 (dk_at dksX2_next_4 0 rfl rfl)
theorem dX2_next_94 : decode cX2_next 94 = .ok (.getfield 15, 3) := dk_180 0 15 (dk_at dksX2_next_4 1 rfl rfl)
theorem dX2_next_97 : decode cX2_next 97 = .ok (.iconst 1, 1) := dk_4 (dk_at dksX2_next_4 4 rfl rfl)
theorem dX2_next_98 : decode cX2_next 98 = .ok (.iadd, 1) := dk_96 (dk_at dksX2_next_4 5 rfl rfl)
theorem dX2_next_99 : decode cX2_next 99 = .ok (.putfield 15, 3) := dk_181 0 15 (dk_at dksX2_next_4 6 rfl rfl)
theorem dX2_next_102 : decode cX2_next 102 = .ok (.goto (-27), 3) := dk_167 255 229 (dk_at dksX2_next_4 9 rfl rfl)
theorem dX2_next_105 : decode cX2_next 105 = .ok (.aload_n 0, 1) := dk_42 (dk_at dksX2_next_4 12 rfl rfl)
theorem dX2_next_106 : decode cX2_next 106 = .ok (.aload_n 0, 1) := dk_42 (dk_at dksX2_next_4 13 rfl rfl)
theorem dX2_next_107 : decode cX2_next 107 = .ok (.invokevirtual 44, 3) := dk_182 0 44 (dk_at dksX2_next_4 14 rfl rfl)
theorem dX2_next_110 : decode cX2_next 110 = .ok (.putfield 47, 3) := dk_181 0 47 (dk_at dksX2_next_4 17 rfl rfl)
theorem dX2_next_113 : decode cX2_next 113 = .ok (.aload_n 0, 1) := dk_42 (dk_at dksX2_next_4 20 rfl rfl)
theorem dX2_next_114 : decode cX2_next 114 = .ok (.aload_n 0, 1) := dk_42 (dk_at dksX2_next_4 21 rfl rfl)
theorem dX2_next_115 : decode cX2_next 115 = .ok (.getfield 47, 3) := dk_180 0 47 (dk_at dksX2_next_5 0 rfl rfl)
theorem dX2_next_118 : decode cX2_next 118 = .ok (.iconst (-1), 1) := dk_2 (dk_at dksX2_next_5 3 rfl rfl)
theorem dX2_next_119 : decode cX2_next 119 = .ok (.if_icmp .eq 7, 3) := dk_159 0 7 (dk_at dksX2_next_5 4 rfl rfl)
theorem dX2_next_122 : decode cX2_next 122 = .ok (.iconst 0, 1) := dk_3 (dk_at dksX2_next_5 7 rfl rfl)
theorem dX2_next_123 : decode cX2_next 123 = .ok (.goto 22, 3) := dk_167 0 22 (dk_at dksX2_next_5 8 rfl rfl)
theorem dX2_next_126 : decode cX2_next 126 = .ok (.aload_n 0, 1) := dk_42 (dk_at dksX2_next_5 11 rfl rfl)
theorem dX2_next_127 : decode cX2_next 127 = .ok (.getfield 15, 3) := dk_180 0 15 (dk_at dksX2_next_5 12 rfl rfl)
theorem dX2_next_130 : decode cX2_next 130 = .ok (.aload_n 0, 1) := dk_42 (dk_at dksX2_next_5 15 rfl rfl)
theorem dX2_next_131 : decode cX2_next 131 = .ok (.getfield 30, 3) := dk_180 0 30 (dk_at dksX2_next_5 16 rfl rfl)
theorem dX2_next_134 : decode cX2_next 134 = .ok (.isub, 1) := dk_100 (dk_at dksX2_next_5 19 rfl rfl)
theorem dX2_next_135 : decode cX2_next 135 = .ok (.bipush 6, 2) := dk_16 6 (dk_at dksX2_next_5 20 rfl rfl)
theorem dX2_next_137 : decode cX2_next 137 = .ok (.if_icmp .le 7, 3) := dk_164 0 7 (dk_at dksX2_next_6 0 rfl rfl)
theorem dX2_next_140 : decode cX2_next 140 = .ok (.iconst 5, 1) := dk_8 (dk_at dksX2_next_6 3 rfl rfl)
theorem dX2_next_141 : decode cX2_next 141 = .ok (.goto 4, 3) := dk_167 0 4 (dk_at dksX2_next_6 4 rfl rfl)
theorem dX2_next_144 : decode cX2_next 144 = .ok (.iconst 1, 1) := dk_4 (dk_at dksX2_next_6 7 rfl rfl)
theorem dX2_next_145 : decode cX2_next 145 = .ok (.putfield 33, 3) := dk_181 0 33 (dk_at dksX2_next_6 8 rfl rfl)
theorem dX2_next_148 : decode cX2_next 148 = .ok (.aload_n 0, 1) := dk_42 (dk_at dksX2_next_6 11 rfl rfl)
theorem dX2_next_149 : decode cX2_next 149 = .ok (.getfield 33, 3) := dk_180 0 33 (dk_at dksX2_next_6 12 rfl rfl)
theorem dX2_next_152 : decode cX2_next 152 = .ok (.iconst 1, 1) := dk_4 (dk_at dksX2_next_6 15 rfl rfl)
theorem dX2_next_153 : decode cX2_next 153 = .ok (.if_icmp .ne 106, 3) := dk_160 0 106 (dk_at dksX2_next_6 16 rfl rfl)
theorem dX2_next_156 : decode cX2_next 156 = .ok (.aload_n 0, 1) := dk_42 (dk_at dksX2_next_6 19 rfl rfl)
theorem dX2_next_157 : decode cX2_next 157 = .ok (.invokevirtual 50, 3) := dk_182 0 50 (dk_at dksX2_next_6 20 rfl rfl)
theorem dX2_next_160 : decode cX2_next 160 = .ok (.goto 99, 3) := dk_167 0 99 (dk_at dksX2_next_7 0 rfl rfl)
theorem dX2_next_163 : decode cX2_next 163 = .ok (.aload_n 0, 1) := dk_42 (dk_at dksX2_next_7 3 rfl rfl)
theorem dX2_next_164 : decode cX2_next 164 = .ok (.invokevirtual 26, 3) := dk_182 0 26 (dk_at dksX2_next_7 4 rfl rfl)
theorem dX2_next_167 : decode cX2_next 167 = .ok (.i2l, 1) := dk_133 (dk_at dksX2_next_7 7 rfl rfl)
theorem dX2_next_168 : decode cX2_next 168 = .ok (.ldc2_w 53, 3) := dk_20 0 53 (dk_at dksX2_next_7 8 rfl rfl)
theorem dX2_next_171 : decode cX2_next 171 = .ok (.ldc2_w 55, 3) := dk_20 0 55 (dk_at dksX2_next_7 11 rfl rfl)
theorem dX2_next_174 : decode cX2_next 174 = .ok (.invokestatic 40, 3) := dk_184 0 40 (dk_at dksX2_next_7 14 rfl rfl)
theorem dX2_next_177 : decode cX2_next 177 = .ok (.ifCond .eq 78, 3) := dk_153 0 78 (dk_at dksX2_next_7 17 rfl rfl)
theorem dX2_next_180 : decode cX2_next 180 = .ok (.aload_n 0, 1) := dk_42 (dk_at dksX2_next_7 20 rfl rfl)
theorem dX2_next_181 : decode cX2_next 181 = .ok (.iconst 2, 1) := dk_5 (dk_at dksX2_next_7 21 rfl rfl)
theorem dX2_next_182 : decode cX2_next 182 = .ok (.putfield 33, 3) := dk_181 0 33 (dk_at dksX2_next_8 0 rfl rfl)
theorem dX2_next_185 : decode cX2_next 185 = .ok (.aload_n 0, 1) := dk_42 (dk_at dksX2_next_8 3 rfl rfl)
theorem dX2_next_186 : decode cX2_next 186 = .ok (.iconst 0, 1) := dk_3 (dk_at dksX2_next_8 4 rfl rfl)
theorem dX2_next_187 : decode cX2_next 187 = .ok (.putfield 47, 3) := dk_181 0 47 (dk_at dksX2_next_8 5 rfl rfl)
theorem dX2_next_190 : decode cX2_next 190 = .ok (.aload_n 0, 1) := dk_42 (dk_at dksX2_next_8 8 rfl rfl)
theorem dX2_next_191 : decode cX2_next 191 = .ok (.invokevirtual 26, 3) := dk_182 0 26 (dk_at dksX2_next_8 9 rfl rfl)
theorem dX2_next_194 : decode cX2_next 194 = .ok (.i2l, 1) := dk_133 (dk_at dksX2_next_8 12 rfl rfl)
theorem dX2_next_195 : decode cX2_next 195 = .ok (.ldc2_w 53, 3) := dk_20 0 53 (dk_at dksX2_next_8 13 rfl rfl)
theorem dX2_next_198 : decode cX2_next 198 = .ok (.ldc2_w 55, 3) := dk_20 0 55 (dk_at dksX2_next_8 16 rfl rfl)
theorem dX2_next_201 : decode cX2_next 201 = .ok (.invokestatic 40, 3) := dk_184 0 40 (dk_at dksX2_next_8 19 rfl rfl)
theorem dX2_next_204 : decode cX2_next 204 = .ok (.ifCond .eq 55, 3) := dk_153 0 55 (dk_at dksX2_next_9 0 rfl rfl)
theorem dX2_next_207 : decode cX2_next 207 = .ok (.aload_n 0, 1) := dk_42 (dk_at dksX2_next_9 3 rfl rfl)
theorem dX2_next_208 : decode cX2_next 208 = .ok (.aload_n 0, 1) := dk_42 (dk_at dksX2_next_9 4 rfl rfl)
theorem dX2_next_209 : decode cX2_next 209 = .ok (.getfield 47, 3) := dk_180 0 47 (dk_at dksX2_next_9 5 rfl rfl)
theorem dX2_next_212 : decode cX2_next 212 = .ok (.ldc 57, 2) := dk_18 57 (dk_at dksX2_next_9 8 rfl rfl)
theorem dX2_next_214 : decode cX2_next 214 = .ok (.if_icmp .le 10, 3) := dk_164 0 10 (dk_at dksX2_next_9 10 rfl rfl)
theorem dX2_next_217 : decode cX2_next 217 = .ok (.aload_n 0, 1) := dk_42 (dk_at dksX2_next_9 13 rfl rfl)
theorem dX2_next_218 : decode cX2_next 218 = .ok (.getfield 47, 3) := dk_180 0 47 (dk_at dksX2_next_9 14 rfl rfl)
theorem dX2_next_221 : decode cX2_next 221 = .ok (.goto 18, 3) := dk_167 0 18 (dk_at dksX2_next_9 17 rfl rfl)
theorem dX2_next_224 : decode cX2_next 224 = .ok (.bipush 10, 2) := dk_16 10 (dk_at dksX2_next_9 20 rfl rfl)
theorem dX2_next_226 : decode cX2_next 226 = .ok (.aload_n 0, 1) := dk_42 (dk_at dksX2_next_9 22 rfl rfl)
theorem dX2_next_227 : decode cX2_next 227 = .ok (.getfield 47, 3) := dk_180 0 47 (dk_at dksX2_next_10 0 rfl rfl)
theorem dX2_next_230 : decode cX2_next 230 = .ok (.imul, 1) := dk_104 (dk_at dksX2_next_10 3 rfl rfl)
theorem dX2_next_231 : decode cX2_next 231 = .ok (.aload_n 0, 1) := dk_42 (dk_at dksX2_next_10 4 rfl rfl)
theorem dX2_next_232 : decode cX2_next 232 = .ok (.invokevirtual 26, 3) := dk_182 0 26 (dk_at dksX2_next_10 5 rfl rfl)
theorem dX2_next_235 : decode cX2_next 235 = .ok (.iadd, 1) := dk_96 (dk_at dksX2_next_10 8 rfl rfl)
theorem dX2_next_236 : decode cX2_next 236 = .ok (.bipush 48, 2) := dk_16 48 (dk_at dksX2_next_10 9 rfl rfl)
theorem dX2_next_238 : decode cX2_next 238 = .ok (.isub, 1) := dk_100 (dk_at dksX2_next_10 11 rfl rfl)
theorem dX2_next_239 : decode cX2_next 239 = .ok (.putfield 47, 3) := dk_181 0 47 (dk_at dksX2_next_10 12 rfl rfl)
theorem dX2_next_242 : decode cX2_next 242 = .ok (.aload_n 0, 1) := dk_42 (dk_at dksX2_next_10 15 rfl rfl)
theorem dX2_next_243 : decode cX2_next 243 = .ok (.dup, 1) := dk_89 (dk_at dksX2_next_10 16 rfl rfl)
theorem dX2_next_244 : decode cX2_next 244 = .ok (.getfield 15, 3) := dk_180 0 15 (dk_at dksX2_next_10 17 rfl rfl)
theorem dX2_next_247 : decode cX2_next 247 = .ok (.iconst 1, 1) := dk_4 (dk_at dksX2_next_10 20 rfl rfl)
theorem dX2_next_248 : decode cX2_next 248 = .ok (.iadd, 1) := dk_96 (dk_at dksX2_next_10 21 rfl rfl)
theorem dX2_next_249 : decode cX2_next 249 = .ok (.putfield 15, 3) := dk_181 0 15 (dk_at dksX2_next_11 0 rfl rfl)
theorem dX2_next_252 : decode cX2_next 252 = .ok (.goto (-62), 3) := dk_167 255 194 (dk_at dksX2_next_11 3 rfl rfl)
theorem dX2_next_255 : decode cX2_next 255 = .ok (.aload_n 0, 1) := dk_42 (dk_at dksX2_next_11 6 rfl rfl)
theorem dX2_next_256 : decode cX2_next 256 = .ok (.invokevirtual 58, 3) := dk_182 0 58 (dk_at dksX2_next_11 7 rfl rfl)
theorem dX2_next_259 : decode cX2_next 259 = .ok (.return_, 1) := dk_177 (dk_at dksX2_next_11 10 rfl rfl)
abbrev cX2_here : ByteArray := prog_14_method_2_code
def yX2_here : MethodName := ⟨RX2, "here", "()I"⟩
def dkwX2_here_1 : List UInt8 := [17, 0, 255, 126, 167, 0, 4, 2, 172]
abbrev dktX2_here_1 : List UInt8 := dkwX2_here_1 ++ []
def dkwX2_here_0 : List UInt8 := [42, 180, 0, 15, 42, 180, 0, 19, 162, 0, 22, 42, 180, 0, 3, 180, 0, 22, 42, 180, 0, 15, 51]
abbrev dktX2_here_0 : List UInt8 := dkwX2_here_0 ++ dktX2_here_1
theorem dksX2_here_0 : cX2_here.data.toList.drop 0 = dktX2_here_0 := by decide +kernel
theorem dksX2_here_1 : cX2_here.data.toList.drop 23 = dktX2_here_1 := dk_seg dksX2_here_0 23 rfl rfl
theorem dX2_here_0 : decode cX2_here 0 = .ok (.aload_n 0, 1) := dk_42 (dk_at dksX2_here_0 0 rfl rfl)
theorem dX2_here_1 : decode cX2_here 1 = .ok (.getfield 15, 3) := dk_180 0 15 (dk_at dksX2_here_0 1 rfl rfl)
theorem dX2_here_4 : decode cX2_here 4 = .ok (.aload_n 0, 1) := dk_42 (dk_at dksX2_here_0 4 rfl rfl)
theorem dX2_here_5 : decode cX2_here 5 = .ok (.getfield 19, 3) := dk_180 0 19 (dk_at dksX2_here_0 5 rfl rfl)
theorem dX2_here_8 : decode cX2_here 8 = .ok (.if_icmp .ge 22, 3) := dk_162 0 22 (dk_at dksX2_here_0 8 rfl rfl)
theorem dX2_here_11 : decode cX2_here 11 = .ok (.aload_n 0, 1) := dk_42 (dk_at dksX2_here_0 11 rfl rfl)
theorem dX2_here_12 : decode cX2_here 12 = .ok (.getfield 3, 3) := dk_180 0 3 (dk_at dksX2_here_0 12 rfl rfl)
theorem dX2_here_15 : decode cX2_here 15 = .ok (.getfield 22, 3) := dk_180 0 22 (dk_at dksX2_here_0 15 rfl rfl)
theorem dX2_here_18 : decode cX2_here 18 = .ok (.aload_n 0, 1) := dk_42 (dk_at dksX2_here_0 18 rfl rfl)
theorem dX2_here_19 : decode cX2_here 19 = .ok (.getfield 15, 3) := dk_180 0 15 (dk_at dksX2_here_0 19 rfl rfl)
theorem dX2_here_22 : decode cX2_here 22 = .ok (.baload, 1) := dk_51 (dk_at dksX2_here_0 22 rfl rfl)
theorem dX2_here_23 : decode cX2_here 23 = .ok (.sipush 255, 3) := dk_17 0 255 (dk_at dksX2_here_1 0 rfl rfl)
theorem dX2_here_26 : decode cX2_here 26 = .ok (.iand, 1) := dk_126 (dk_at dksX2_here_1 3 rfl rfl)
theorem dX2_here_27 : decode cX2_here 27 = .ok (.goto 4, 3) := dk_167 0 4 (dk_at dksX2_here_1 4 rfl rfl)
theorem dX2_here_30 : decode cX2_here 30 = .ok (.iconst (-1), 1) := dk_2 (dk_at dksX2_here_1 7 rfl rfl)
theorem dX2_here_31 : decode cX2_here 31 = .ok (.ireturn, 1) := dk_172 (dk_at dksX2_here_1 8 rfl rfl)
abbrev cX2_word : ByteArray := prog_14_method_5_code
def yX2_word : MethodName := ⟨RX2, "word", "()I"⟩
def dkwX2_word_4 : List UInt8 := [27, 172, 132, 1, 1, 167, 255, 160, 2, 172]
abbrev dktX2_word_4 : List UInt8 := dkwX2_word_4 ++ []
def dkwX2_word_3 : List UInt8 := [96, 51, 160, 0, 9, 132, 2, 1, 167, 255, 214, 42, 180, 0, 30, 28, 96, 42, 180, 0, 15, 160, 0, 5]
abbrev dktX2_word_3 : List UInt8 := dkwX2_word_3 ++ dktX2_word_4
def dkwX2_word_2 : List UInt8 := [162, 0, 35, 178, 0, 69, 27, 50, 28, 182, 0, 76, 42, 180, 0, 3, 180, 0, 22, 42, 180, 0, 30, 28]
abbrev dktX2_word_2 : List UInt8 := dkwX2_word_2 ++ dktX2_word_3
def dkwX2_word_1 : List UInt8 := [180, 0, 30, 100, 159, 0, 6, 167, 0, 65, 3, 61, 42, 180, 0, 30, 28, 96, 42, 180, 0, 15]
abbrev dktX2_word_1 : List UInt8 := dkwX2_word_1 ++ dktX2_word_2
def dkwX2_word_0 : List UInt8 := [3, 60, 27, 178, 0, 69, 190, 162, 0, 94, 178, 0, 69, 27, 50, 182, 0, 73, 42, 180, 0, 15, 42]
abbrev dktX2_word_0 : List UInt8 := dkwX2_word_0 ++ dktX2_word_1
theorem dksX2_word_0 : cX2_word.data.toList.drop 0 = dktX2_word_0 := by decide +kernel
theorem dksX2_word_1 : cX2_word.data.toList.drop 23 = dktX2_word_1 := dk_seg dksX2_word_0 23 rfl rfl
theorem dksX2_word_2 : cX2_word.data.toList.drop 45 = dktX2_word_2 := dk_seg dksX2_word_1 22 rfl rfl
theorem dksX2_word_3 : cX2_word.data.toList.drop 69 = dktX2_word_3 := dk_seg dksX2_word_2 24 rfl rfl
theorem dksX2_word_4 : cX2_word.data.toList.drop 93 = dktX2_word_4 := dk_seg dksX2_word_3 24 rfl rfl
theorem dX2_word_0 : decode cX2_word 0 = .ok (.iconst 0, 1) := dk_3 (dk_at dksX2_word_0 0 rfl rfl)
theorem dX2_word_1 : decode cX2_word 1 = .ok (.istore_n 1, 1) := dk_60 (dk_at dksX2_word_0 1 rfl rfl)
theorem dX2_word_2 : decode cX2_word 2 = .ok (.iload_n 1, 1) := dk_27 (dk_at dksX2_word_0 2 rfl rfl)
theorem dX2_word_3 : decode cX2_word 3 = .ok (.getstatic 69, 3) := dk_178 0 69 (dk_at dksX2_word_0 3 rfl rfl)
theorem dX2_word_6 : decode cX2_word 6 = .ok (.arraylength, 1) := dk_190 (dk_at dksX2_word_0 6 rfl rfl)
theorem dX2_word_7 : decode cX2_word 7 = .ok (.if_icmp .ge 94, 3) := dk_162 0 94 (dk_at dksX2_word_0 7 rfl rfl)
theorem dX2_word_10 : decode cX2_word 10 = .ok (.getstatic 69, 3) := dk_178 0 69 (dk_at dksX2_word_0 10 rfl rfl)
theorem dX2_word_13 : decode cX2_word 13 = .ok (.iload_n 1, 1) := dk_27 (dk_at dksX2_word_0 13 rfl rfl)
theorem dX2_word_14 : decode cX2_word 14 = .ok (.aaload, 1) := dk_50 (dk_at dksX2_word_0 14 rfl rfl)
theorem dX2_word_15 : decode cX2_word 15 = .ok (.invokevirtual 73, 3) := dk_182 0 73 (dk_at dksX2_word_0 15 rfl rfl)
theorem dX2_word_18 : decode cX2_word 18 = .ok (.aload_n 0, 1) := dk_42 (dk_at dksX2_word_0 18 rfl rfl)
theorem dX2_word_19 : decode cX2_word 19 = .ok (.getfield 15, 3) := dk_180 0 15 (dk_at dksX2_word_0 19 rfl rfl)
theorem dX2_word_22 : decode cX2_word 22 = .ok (.aload_n 0, 1) := dk_42 (dk_at dksX2_word_0 22 rfl rfl)
theorem dX2_word_23 : decode cX2_word 23 = .ok (.getfield 30, 3) := dk_180 0 30 (dk_at dksX2_word_1 0 rfl rfl)
theorem dX2_word_26 : decode cX2_word 26 = .ok (.isub, 1) := dk_100 (dk_at dksX2_word_1 3 rfl rfl)
theorem dX2_word_27 : decode cX2_word 27 = .ok (.if_icmp .eq 6, 3) := dk_159 0 6 (dk_at dksX2_word_1 4 rfl rfl)
theorem dX2_word_30 : decode cX2_word 30 = .ok (.goto 65, 3) := dk_167 0 65 (dk_at dksX2_word_1 7 rfl rfl)
theorem dX2_word_33 : decode cX2_word 33 = .ok (.iconst 0, 1) := dk_3 (dk_at dksX2_word_1 10 rfl rfl)
theorem dX2_word_34 : decode cX2_word 34 = .ok (.istore_n 2, 1) := dk_61 (dk_at dksX2_word_1 11 rfl rfl)
theorem dX2_word_35 : decode cX2_word 35 = .ok (.aload_n 0, 1) := dk_42 (dk_at dksX2_word_1 12 rfl rfl)
theorem dX2_word_36 : decode cX2_word 36 = .ok (.getfield 30, 3) := dk_180 0 30 (dk_at dksX2_word_1 13 rfl rfl)
theorem dX2_word_39 : decode cX2_word 39 = .ok (.iload_n 2, 1) := dk_28 (dk_at dksX2_word_1 16 rfl rfl)
theorem dX2_word_40 : decode cX2_word 40 = .ok (.iadd, 1) := dk_96 (dk_at dksX2_word_1 17 rfl rfl)
theorem dX2_word_41 : decode cX2_word 41 = .ok (.aload_n 0, 1) := dk_42 (dk_at dksX2_word_1 18 rfl rfl)
theorem dX2_word_42 : decode cX2_word 42 = .ok (.getfield 15, 3) := dk_180 0 15 (dk_at dksX2_word_1 19 rfl rfl)
theorem dX2_word_45 : decode cX2_word 45 = .ok (.if_icmp .ge 35, 3) := dk_162 0 35 (dk_at dksX2_word_2 0 rfl rfl)
theorem dX2_word_48 : decode cX2_word 48 = .ok (.getstatic 69, 3) := dk_178 0 69 (dk_at dksX2_word_2 3 rfl rfl)
theorem dX2_word_51 : decode cX2_word 51 = .ok (.iload_n 1, 1) := dk_27 (dk_at dksX2_word_2 6 rfl rfl)
theorem dX2_word_52 : decode cX2_word 52 = .ok (.aaload, 1) := dk_50 (dk_at dksX2_word_2 7 rfl rfl)
theorem dX2_word_53 : decode cX2_word 53 = .ok (.iload_n 2, 1) := dk_28 (dk_at dksX2_word_2 8 rfl rfl)
theorem dX2_word_54 : decode cX2_word 54 = .ok (.invokevirtual 76, 3) := dk_182 0 76 (dk_at dksX2_word_2 9 rfl rfl)
theorem dX2_word_57 : decode cX2_word 57 = .ok (.aload_n 0, 1) := dk_42 (dk_at dksX2_word_2 12 rfl rfl)
theorem dX2_word_58 : decode cX2_word 58 = .ok (.getfield 3, 3) := dk_180 0 3 (dk_at dksX2_word_2 13 rfl rfl)
theorem dX2_word_61 : decode cX2_word 61 = .ok (.getfield 22, 3) := dk_180 0 22 (dk_at dksX2_word_2 16 rfl rfl)
theorem dX2_word_64 : decode cX2_word 64 = .ok (.aload_n 0, 1) := dk_42 (dk_at dksX2_word_2 19 rfl rfl)
theorem dX2_word_65 : decode cX2_word 65 = .ok (.getfield 30, 3) := dk_180 0 30 (dk_at dksX2_word_2 20 rfl rfl)
theorem dX2_word_68 : decode cX2_word 68 = .ok (.iload_n 2, 1) := dk_28 (dk_at dksX2_word_2 23 rfl rfl)
theorem dX2_word_69 : decode cX2_word 69 = .ok (.iadd, 1) := dk_96 (dk_at dksX2_word_3 0 rfl rfl)
theorem dX2_word_70 : decode cX2_word 70 = .ok (.baload, 1) := dk_51 (dk_at dksX2_word_3 1 rfl rfl)
theorem dX2_word_71 : decode cX2_word 71 = .ok (.if_icmp .ne 9, 3) := dk_160 0 9 (dk_at dksX2_word_3 2 rfl rfl)
theorem dX2_word_74 : decode cX2_word 74 = .ok (.iinc 2 1, 3) := dk_132 2 1 (dk_at dksX2_word_3 5 rfl rfl)
theorem dX2_word_77 : decode cX2_word 77 = .ok (.goto (-42), 3) := dk_167 255 214 (dk_at dksX2_word_3 8 rfl rfl)
theorem dX2_word_80 : decode cX2_word 80 = .ok (.aload_n 0, 1) := dk_42 (dk_at dksX2_word_3 11 rfl rfl)
theorem dX2_word_81 : decode cX2_word 81 = .ok (.getfield 30, 3) := dk_180 0 30 (dk_at dksX2_word_3 12 rfl rfl)
theorem dX2_word_84 : decode cX2_word 84 = .ok (.iload_n 2, 1) := dk_28 (dk_at dksX2_word_3 15 rfl rfl)
theorem dX2_word_85 : decode cX2_word 85 = .ok (.iadd, 1) := dk_96 (dk_at dksX2_word_3 16 rfl rfl)
theorem dX2_word_86 : decode cX2_word 86 = .ok (.aload_n 0, 1) := dk_42 (dk_at dksX2_word_3 17 rfl rfl)
theorem dX2_word_87 : decode cX2_word 87 = .ok (.getfield 15, 3) := dk_180 0 15 (dk_at dksX2_word_3 18 rfl rfl)
theorem dX2_word_90 : decode cX2_word 90 = .ok (.if_icmp .ne 5, 3) := dk_160 0 5 (dk_at dksX2_word_3 21 rfl rfl)
theorem dX2_word_93 : decode cX2_word 93 = .ok (.iload_n 1, 1) := dk_27 (dk_at dksX2_word_4 0 rfl rfl)
theorem dX2_word_94 : decode cX2_word 94 = .ok (.ireturn, 1) := dk_172 (dk_at dksX2_word_4 1 rfl rfl)
theorem dX2_word_95 : decode cX2_word 95 = .ok (.iinc 1 1, 3) := dk_132 1 1 (dk_at dksX2_word_4 2 rfl rfl)
theorem dX2_word_98 : decode cX2_word 98 = .ok (.goto (-96), 3) := dk_167 255 160 (dk_at dksX2_word_4 5 rfl rfl)
theorem dX2_word_101 : decode cX2_word 101 = .ok (.iconst (-1), 1) := dk_2 (dk_at dksX2_word_4 8 rfl rfl)
theorem dX2_word_102 : decode cX2_word 102 = .ok (.ireturn, 1) := dk_172 (dk_at dksX2_word_4 9 rfl rfl)
abbrev cX2_name : ByteArray := prog_14_method_6_code
def yX2_name : MethodName := ⟨RX2, "name", "()V"⟩
def dkwX2_name_2 : List UInt8 := [16, 97, 100, 4, 96, 167, 0, 4, 3, 128, 181, 0, 47, 132, 1, 1, 167, 255, 200, 177]
abbrev dktX2_name_2 : List UInt8 := dkwX2_name_2 ++ []
def dkwX2_name_1 : List UInt8 := [27, 96, 42, 180, 0, 15, 162, 0, 25, 42, 180, 0, 3, 180, 0, 22, 42, 180, 0, 30, 27, 96, 51]
abbrev dktX2_name_1 : List UInt8 := dkwX2_name_1 ++ dktX2_name_2
def dkwX2_name_0 : List UInt8 := [42, 3, 181, 0, 47, 3, 60, 27, 16, 6, 162, 0, 56, 42, 42, 180, 0, 47, 8, 120, 42, 180, 0, 30]
abbrev dktX2_name_0 : List UInt8 := dkwX2_name_0 ++ dktX2_name_1
theorem dksX2_name_0 : cX2_name.data.toList.drop 0 = dktX2_name_0 := by decide +kernel
theorem dksX2_name_1 : cX2_name.data.toList.drop 24 = dktX2_name_1 := dk_seg dksX2_name_0 24 rfl rfl
theorem dksX2_name_2 : cX2_name.data.toList.drop 47 = dktX2_name_2 := dk_seg dksX2_name_1 23 rfl rfl
theorem dX2_name_0 : decode cX2_name 0 = .ok (.aload_n 0, 1) := dk_42 (dk_at dksX2_name_0 0 rfl rfl)
theorem dX2_name_1 : decode cX2_name 1 = .ok (.iconst 0, 1) := dk_3 (dk_at dksX2_name_0 1 rfl rfl)
theorem dX2_name_2 : decode cX2_name 2 = .ok (.putfield 47, 3) := dk_181 0 47 (dk_at dksX2_name_0 2 rfl rfl)
theorem dX2_name_5 : decode cX2_name 5 = .ok (.iconst 0, 1) := dk_3 (dk_at dksX2_name_0 5 rfl rfl)
theorem dX2_name_6 : decode cX2_name 6 = .ok (.istore_n 1, 1) := dk_60 (dk_at dksX2_name_0 6 rfl rfl)
theorem dX2_name_7 : decode cX2_name 7 = .ok (.iload_n 1, 1) := dk_27 (dk_at dksX2_name_0 7 rfl rfl)
theorem dX2_name_8 : decode cX2_name 8 = .ok (.bipush 6, 2) := dk_16 6 (dk_at dksX2_name_0 8 rfl rfl)
theorem dX2_name_10 : decode cX2_name 10 = .ok (.if_icmp .ge 56, 3) := dk_162 0 56 (dk_at dksX2_name_0 10 rfl rfl)
theorem dX2_name_13 : decode cX2_name 13 = .ok (.aload_n 0, 1) := dk_42 (dk_at dksX2_name_0 13 rfl rfl)
theorem dX2_name_14 : decode cX2_name 14 = .ok (.aload_n 0, 1) := dk_42 (dk_at dksX2_name_0 14 rfl rfl)
theorem dX2_name_15 : decode cX2_name 15 = .ok (.getfield 47, 3) := dk_180 0 47 (dk_at dksX2_name_0 15 rfl rfl)
theorem dX2_name_18 : decode cX2_name 18 = .ok (.iconst 5, 1) := dk_8 (dk_at dksX2_name_0 18 rfl rfl)
theorem dX2_name_19 : decode cX2_name 19 = .ok (.ishl, 1) := dk_120 (dk_at dksX2_name_0 19 rfl rfl)
theorem dX2_name_20 : decode cX2_name 20 = .ok (.aload_n 0, 1) := dk_42 (dk_at dksX2_name_0 20 rfl rfl)
theorem dX2_name_21 : decode cX2_name 21 = .ok (.getfield 30, 3) := dk_180 0 30 (dk_at dksX2_name_0 21 rfl rfl)
theorem dX2_name_24 : decode cX2_name 24 = .ok (.iload_n 1, 1) := dk_27 (dk_at dksX2_name_1 0 rfl rfl)
theorem dX2_name_25 : decode cX2_name 25 = .ok (.iadd, 1) := dk_96 (dk_at dksX2_name_1 1 rfl rfl)
theorem dX2_name_26 : decode cX2_name 26 = .ok (.aload_n 0, 1) := dk_42 (dk_at dksX2_name_1 2 rfl rfl)
theorem dX2_name_27 : decode cX2_name 27 = .ok (.getfield 15, 3) := dk_180 0 15 (dk_at dksX2_name_1 3 rfl rfl)
theorem dX2_name_30 : decode cX2_name 30 = .ok (.if_icmp .ge 25, 3) := dk_162 0 25 (dk_at dksX2_name_1 6 rfl rfl)
theorem dX2_name_33 : decode cX2_name 33 = .ok (.aload_n 0, 1) := dk_42 (dk_at dksX2_name_1 9 rfl rfl)
theorem dX2_name_34 : decode cX2_name 34 = .ok (.getfield 3, 3) := dk_180 0 3 (dk_at dksX2_name_1 10 rfl rfl)
theorem dX2_name_37 : decode cX2_name 37 = .ok (.getfield 22, 3) := dk_180 0 22 (dk_at dksX2_name_1 13 rfl rfl)
theorem dX2_name_40 : decode cX2_name 40 = .ok (.aload_n 0, 1) := dk_42 (dk_at dksX2_name_1 16 rfl rfl)
theorem dX2_name_41 : decode cX2_name 41 = .ok (.getfield 30, 3) := dk_180 0 30 (dk_at dksX2_name_1 17 rfl rfl)
theorem dX2_name_44 : decode cX2_name 44 = .ok (.iload_n 1, 1) := dk_27 (dk_at dksX2_name_1 20 rfl rfl)
theorem dX2_name_45 : decode cX2_name 45 = .ok (.iadd, 1) := dk_96 (dk_at dksX2_name_1 21 rfl rfl)
theorem dX2_name_46 : decode cX2_name 46 = .ok (.baload, 1) := dk_51 (dk_at dksX2_name_1 22 rfl rfl)
theorem dX2_name_47 : decode cX2_name 47 = .ok (.bipush 97, 2) := dk_16 97 (dk_at dksX2_name_2 0 rfl rfl)
theorem dX2_name_49 : decode cX2_name 49 = .ok (.isub, 1) := dk_100 (dk_at dksX2_name_2 2 rfl rfl)
theorem dX2_name_50 : decode cX2_name 50 = .ok (.iconst 1, 1) := dk_4 (dk_at dksX2_name_2 3 rfl rfl)
theorem dX2_name_51 : decode cX2_name 51 = .ok (.iadd, 1) := dk_96 (dk_at dksX2_name_2 4 rfl rfl)
theorem dX2_name_52 : decode cX2_name 52 = .ok (.goto 4, 3) := dk_167 0 4 (dk_at dksX2_name_2 5 rfl rfl)
theorem dX2_name_55 : decode cX2_name 55 = .ok (.iconst 0, 1) := dk_3 (dk_at dksX2_name_2 8 rfl rfl)
theorem dX2_name_56 : decode cX2_name 56 = .ok (.ior, 1) := dk_128 (dk_at dksX2_name_2 9 rfl rfl)
theorem dX2_name_57 : decode cX2_name 57 = .ok (.putfield 47, 3) := dk_181 0 47 (dk_at dksX2_name_2 10 rfl rfl)
theorem dX2_name_60 : decode cX2_name 60 = .ok (.iinc 1 1, 3) := dk_132 1 1 (dk_at dksX2_name_2 13 rfl rfl)
theorem dX2_name_63 : decode cX2_name 63 = .ok (.goto (-56), 3) := dk_167 255 200 (dk_at dksX2_name_2 16 rfl rfl)
theorem dX2_name_66 : decode cX2_name 66 = .ok (.return_, 1) := dk_177 (dk_at dksX2_name_2 19 rfl rfl)
abbrev cX2_sign : ByteArray := prog_14_method_4_code
def yX2_sign : MethodName := ⟨RX2, "sign", "()V"⟩
def dkwX2_sign_5 : List UInt8 := [17, 1, 0, 161, 0, 13, 42, 89, 180, 0, 15, 4, 96, 181, 0, 15, 177]
abbrev dktX2_sign_5 : List UInt8 := dkwX2_sign_5 ++ []
def dkwX2_sign_4 : List UInt8 := [160, 0, 19, 42, 182, 0, 26, 16, 61, 160, 0, 10, 42, 17, 1, 1, 181, 0, 47, 42, 180, 0, 47]
abbrev dktX2_sign_4 : List UInt8 := dkwX2_sign_4 ++ dktX2_sign_5
def dkwX2_sign_3 : List UInt8 := [42, 182, 0, 26, 16, 62, 160, 0, 13, 42, 17, 1, 2, 181, 0, 47, 167, 0, 25, 27, 16, 62]
abbrev dktX2_sign_3 : List UInt8 := dkwX2_sign_3 ++ dktX2_sign_4
def dkwX2_sign_2 : List UInt8 := [182, 0, 26, 16, 61, 160, 0, 13, 42, 17, 1, 0, 181, 0, 47, 167, 0, 50, 27, 16, 60, 160, 0, 22]
abbrev dktX2_sign_2 : List UInt8 := dkwX2_sign_2 ++ dktX2_sign_3
def dkwX2_sign_1 : List UInt8 := [155, 0, 7, 6, 167, 0, 4, 8, 181, 0, 33, 42, 27, 181, 0, 47, 27, 16, 60, 160, 0, 22, 42]
abbrev dktX2_sign_1 : List UInt8 := dkwX2_sign_1 ++ dktX2_sign_2
def dkwX2_sign_0 : List UInt8 := [42, 182, 0, 26, 60, 42, 89, 180, 0, 15, 4, 96, 181, 0, 15, 42, 18, 61, 27, 182, 0, 63]
abbrev dktX2_sign_0 : List UInt8 := dkwX2_sign_0 ++ dktX2_sign_1
theorem dksX2_sign_0 : cX2_sign.data.toList.drop 0 = dktX2_sign_0 := by decide +kernel
theorem dksX2_sign_1 : cX2_sign.data.toList.drop 22 = dktX2_sign_1 := dk_seg dksX2_sign_0 22 rfl rfl
theorem dksX2_sign_2 : cX2_sign.data.toList.drop 45 = dktX2_sign_2 := dk_seg dksX2_sign_1 23 rfl rfl
theorem dksX2_sign_3 : cX2_sign.data.toList.drop 69 = dktX2_sign_3 := dk_seg dksX2_sign_2 24 rfl rfl
theorem dksX2_sign_4 : cX2_sign.data.toList.drop 91 = dktX2_sign_4 := dk_seg dksX2_sign_3 22 rfl rfl
theorem dksX2_sign_5 : cX2_sign.data.toList.drop 114 = dktX2_sign_5 := dk_seg dksX2_sign_4 23 rfl rfl
theorem dX2_sign_0 : decode cX2_sign 0 = .ok (.aload_n 0, 1) := dk_42 (dk_at dksX2_sign_0 0 rfl rfl)
theorem dX2_sign_1 : decode cX2_sign 1 = .ok (.invokevirtual 26, 3) := dk_182 0 26 (dk_at dksX2_sign_0 1 rfl rfl)
theorem dX2_sign_4 : decode cX2_sign 4 = .ok (.istore_n 1, 1) := dk_60 (dk_at dksX2_sign_0 4 rfl rfl)
theorem dX2_sign_5 : decode cX2_sign 5 = .ok (.aload_n 0, 1) := dk_42 (dk_at dksX2_sign_0 5 rfl rfl)
theorem dX2_sign_6 : decode cX2_sign 6 = .ok (.dup, 1) := dk_89 (dk_at dksX2_sign_0 6 rfl rfl)
theorem dX2_sign_7 : decode cX2_sign 7 = .ok (.getfield 15, 3) := dk_180 0 15 (dk_at dksX2_sign_0 7 rfl rfl)
theorem dX2_sign_10 : decode cX2_sign 10 = .ok (.iconst 1, 1) := dk_4 (dk_at dksX2_sign_0 10 rfl rfl)
theorem dX2_sign_11 : decode cX2_sign 11 = .ok (.iadd, 1) := dk_96 (dk_at dksX2_sign_0 11 rfl rfl)
theorem dX2_sign_12 : decode cX2_sign 12 = .ok (.putfield 15, 3) := dk_181 0 15 (dk_at dksX2_sign_0 12 rfl rfl)
theorem dX2_sign_15 : decode cX2_sign 15 = .ok (.aload_n 0, 1) := dk_42 (dk_at dksX2_sign_0 15 rfl rfl)
theorem dX2_sign_16 : decode cX2_sign 16 = .ok (.ldc 61, 2) := dk_18 61 (dk_at dksX2_sign_0 16 rfl rfl)
theorem dX2_sign_18 : decode cX2_sign 18 = .ok (.iload_n 1, 1) := dk_27 (dk_at dksX2_sign_0 18 rfl rfl)
theorem dX2_sign_19 : decode cX2_sign 19 = .ok (.invokevirtual 63, 3) := dk_182 0 63 (dk_at dksX2_sign_0 19 rfl rfl)
theorem dX2_sign_22 : decode cX2_sign 22 = .ok (.ifCond .lt 7, 3) := dk_155 0 7 (dk_at dksX2_sign_1 0 rfl rfl)
theorem dX2_sign_25 : decode cX2_sign 25 = .ok (.iconst 3, 1) := dk_6 (dk_at dksX2_sign_1 3 rfl rfl)
theorem dX2_sign_26 : decode cX2_sign 26 = .ok (.goto 4, 3) := dk_167 0 4 (dk_at dksX2_sign_1 4 rfl rfl)
theorem dX2_sign_29 : decode cX2_sign 29 = .ok (.iconst 5, 1) := dk_8 (dk_at dksX2_sign_1 7 rfl rfl)
theorem dX2_sign_30 : decode cX2_sign 30 = .ok (.putfield 33, 3) := dk_181 0 33 (dk_at dksX2_sign_1 8 rfl rfl)
theorem dX2_sign_33 : decode cX2_sign 33 = .ok (.aload_n 0, 1) := dk_42 (dk_at dksX2_sign_1 11 rfl rfl)
theorem dX2_sign_34 : decode cX2_sign 34 = .ok (.iload_n 1, 1) := dk_27 (dk_at dksX2_sign_1 12 rfl rfl)
theorem dX2_sign_35 : decode cX2_sign 35 = .ok (.putfield 47, 3) := dk_181 0 47 (dk_at dksX2_sign_1 13 rfl rfl)
theorem dX2_sign_38 : decode cX2_sign 38 = .ok (.iload_n 1, 1) := dk_27 (dk_at dksX2_sign_1 16 rfl rfl)
theorem dX2_sign_39 : decode cX2_sign 39 = .ok (.bipush 60, 2) := dk_16 60 (dk_at dksX2_sign_1 17 rfl rfl)
theorem dX2_sign_41 : decode cX2_sign 41 = .ok (.if_icmp .ne 22, 3) := dk_160 0 22 (dk_at dksX2_sign_1 19 rfl rfl)
theorem dX2_sign_44 : decode cX2_sign 44 = .ok (.aload_n 0, 1) := dk_42 (dk_at dksX2_sign_1 22 rfl rfl)
theorem dX2_sign_45 : decode cX2_sign 45 = .ok (.invokevirtual 26, 3) := dk_182 0 26 (dk_at dksX2_sign_2 0 rfl rfl)
theorem dX2_sign_48 : decode cX2_sign 48 = .ok (.bipush 61, 2) := dk_16 61 (dk_at dksX2_sign_2 3 rfl rfl)
theorem dX2_sign_50 : decode cX2_sign 50 = .ok (.if_icmp .ne 13, 3) := dk_160 0 13 (dk_at dksX2_sign_2 5 rfl rfl)
theorem dX2_sign_53 : decode cX2_sign 53 = .ok (.aload_n 0, 1) := dk_42 (dk_at dksX2_sign_2 8 rfl rfl)
theorem dX2_sign_54 : decode cX2_sign 54 = .ok (.sipush 256, 3) := dk_17 1 0 (dk_at dksX2_sign_2 9 rfl rfl)
theorem dX2_sign_57 : decode cX2_sign 57 = .ok (.putfield 47, 3) := dk_181 0 47 (dk_at dksX2_sign_2 12 rfl rfl)
theorem dX2_sign_60 : decode cX2_sign 60 = .ok (.goto 50, 3) := dk_167 0 50 (dk_at dksX2_sign_2 15 rfl rfl)
theorem dX2_sign_63 : decode cX2_sign 63 = .ok (.iload_n 1, 1) := dk_27 (dk_at dksX2_sign_2 18 rfl rfl)
theorem dX2_sign_64 : decode cX2_sign 64 = .ok (.bipush 60, 2) := dk_16 60 (dk_at dksX2_sign_2 19 rfl rfl)
theorem dX2_sign_66 : decode cX2_sign 66 = .ok (.if_icmp .ne 22, 3) := dk_160 0 22 (dk_at dksX2_sign_2 21 rfl rfl)
theorem dX2_sign_69 : decode cX2_sign 69 = .ok (.aload_n 0, 1) := dk_42 (dk_at dksX2_sign_3 0 rfl rfl)
theorem dX2_sign_70 : decode cX2_sign 70 = .ok (.invokevirtual 26, 3) := dk_182 0 26 (dk_at dksX2_sign_3 1 rfl rfl)
theorem dX2_sign_73 : decode cX2_sign 73 = .ok (.bipush 62, 2) := dk_16 62 (dk_at dksX2_sign_3 4 rfl rfl)
theorem dX2_sign_75 : decode cX2_sign 75 = .ok (.if_icmp .ne 13, 3) := dk_160 0 13 (dk_at dksX2_sign_3 6 rfl rfl)
theorem dX2_sign_78 : decode cX2_sign 78 = .ok (.aload_n 0, 1) := dk_42 (dk_at dksX2_sign_3 9 rfl rfl)
theorem dX2_sign_79 : decode cX2_sign 79 = .ok (.sipush 258, 3) := dk_17 1 2 (dk_at dksX2_sign_3 10 rfl rfl)
theorem dX2_sign_82 : decode cX2_sign 82 = .ok (.putfield 47, 3) := dk_181 0 47 (dk_at dksX2_sign_3 13 rfl rfl)
theorem dX2_sign_85 : decode cX2_sign 85 = .ok (.goto 25, 3) := dk_167 0 25 (dk_at dksX2_sign_3 16 rfl rfl)
theorem dX2_sign_88 : decode cX2_sign 88 = .ok (.iload_n 1, 1) := dk_27 (dk_at dksX2_sign_3 19 rfl rfl)
theorem dX2_sign_89 : decode cX2_sign 89 = .ok (.bipush 62, 2) := dk_16 62 (dk_at dksX2_sign_3 20 rfl rfl)
theorem dX2_sign_91 : decode cX2_sign 91 = .ok (.if_icmp .ne 19, 3) := dk_160 0 19 (dk_at dksX2_sign_4 0 rfl rfl)
theorem dX2_sign_94 : decode cX2_sign 94 = .ok (.aload_n 0, 1) := dk_42 (dk_at dksX2_sign_4 3 rfl rfl)
theorem dX2_sign_95 : decode cX2_sign 95 = .ok (.invokevirtual 26, 3) := dk_182 0 26 (dk_at dksX2_sign_4 4 rfl rfl)
theorem dX2_sign_98 : decode cX2_sign 98 = .ok (.bipush 61, 2) := dk_16 61 (dk_at dksX2_sign_4 7 rfl rfl)
theorem dX2_sign_100 : decode cX2_sign 100 = .ok (.if_icmp .ne 10, 3) := dk_160 0 10 (dk_at dksX2_sign_4 9 rfl rfl)
theorem dX2_sign_103 : decode cX2_sign 103 = .ok (.aload_n 0, 1) := dk_42 (dk_at dksX2_sign_4 12 rfl rfl)
theorem dX2_sign_104 : decode cX2_sign 104 = .ok (.sipush 257, 3) := dk_17 1 1 (dk_at dksX2_sign_4 13 rfl rfl)
theorem dX2_sign_107 : decode cX2_sign 107 = .ok (.putfield 47, 3) := dk_181 0 47 (dk_at dksX2_sign_4 16 rfl rfl)
theorem dX2_sign_110 : decode cX2_sign 110 = .ok (.aload_n 0, 1) := dk_42 (dk_at dksX2_sign_4 19 rfl rfl)
theorem dX2_sign_111 : decode cX2_sign 111 = .ok (.getfield 47, 3) := dk_180 0 47 (dk_at dksX2_sign_4 20 rfl rfl)
theorem dX2_sign_114 : decode cX2_sign 114 = .ok (.sipush 256, 3) := dk_17 1 0 (dk_at dksX2_sign_5 0 rfl rfl)
theorem dX2_sign_117 : decode cX2_sign 117 = .ok (.if_icmp .lt 13, 3) := dk_161 0 13 (dk_at dksX2_sign_5 3 rfl rfl)
theorem dX2_sign_120 : decode cX2_sign 120 = .ok (.aload_n 0, 1) := dk_42 (dk_at dksX2_sign_5 6 rfl rfl)
theorem dX2_sign_121 : decode cX2_sign 121 = .ok (.dup, 1) := dk_89 (dk_at dksX2_sign_5 7 rfl rfl)
theorem dX2_sign_122 : decode cX2_sign 122 = .ok (.getfield 15, 3) := dk_180 0 15 (dk_at dksX2_sign_5 8 rfl rfl)
theorem dX2_sign_125 : decode cX2_sign 125 = .ok (.iconst 1, 1) := dk_4 (dk_at dksX2_sign_5 11 rfl rfl)
theorem dX2_sign_126 : decode cX2_sign 126 = .ok (.iadd, 1) := dk_96 (dk_at dksX2_sign_5 12 rfl rfl)
theorem dX2_sign_127 : decode cX2_sign 127 = .ok (.putfield 15, 3) := dk_181 0 15 (dk_at dksX2_sign_5 13 rfl rfl)
theorem dX2_sign_130 : decode cX2_sign 130 = .ok (.return_, 1) := dk_177 (dk_at dksX2_sign_5 16 rfl rfl)
abbrev cX2_line : ByteArray := prog_14_method_15_code
def yX2_line : MethodName := ⟨RX2, "line", "()V"⟩
def dkwX2_line_15 : List UInt8 := [181, 0, 136, 177]
abbrev dktX2_line_15 : List UInt8 := dkwX2_line_15 ++ []
def dkwX2_line_14 : List UInt8 := [154, 0, 9, 42, 4, 182, 0, 85, 191, 42, 182, 0, 93, 42, 180, 0, 111, 89, 180, 0, 136, 4, 96]
abbrev dktX2_line_14 : List UInt8 := dkwX2_line_14 ++ dktX2_line_15
def dkwX2_line_13 : List UInt8 := [182, 0, 93, 42, 180, 0, 111, 180, 0, 173, 21, 4, 42, 182, 0, 177, 83, 42, 16, 59, 182, 0, 181]
abbrev dktX2_line_13 : List UInt8 := dkwX2_line_13 ++ dktX2_line_14
def dkwX2_line_12 : List UInt8 := [54, 4, 42, 180, 0, 111, 180, 0, 173, 21, 4, 50, 198, 0, 9, 42, 6, 182, 0, 85, 191, 42]
abbrev dktX2_line_12 : List UInt8 := dkwX2_line_12 ++ dktX2_line_13
def dkwX2_line_11 : List UInt8 := [16, 7, 16, 9, 182, 0, 132, 154, 0, 9, 42, 4, 182, 0, 85, 191, 42, 180, 0, 47, 16, 7, 100]
abbrev dktX2_line_11 : List UInt8 := dkwX2_line_11 ++ dktX2_line_12
def dkwX2_line_10 : List UInt8 := [181, 0, 167, 167, 0, 83, 42, 180, 0, 111, 42, 3, 18, 57, 182, 0, 143, 181, 0, 170, 167, 0, 66, 42]
abbrev dktX2_line_10 : List UInt8 := dkwX2_line_10 ++ dktX2_line_11
def dkwX2_line_9 : List UInt8 := [182, 0, 143, 183, 0, 160, 182, 0, 163, 87, 167, 0, 100, 42, 180, 0, 111, 42, 3, 16, 100, 182, 0, 143]
abbrev dktX2_line_9 : List UInt8 := dkwX2_line_9 ++ dktX2_line_10
def dkwX2_line_8 : List UInt8 := [180, 0, 118, 182, 0, 154, 62, 42, 180, 0, 111, 180, 0, 129, 187, 0, 158, 89, 28, 29, 42, 3, 16, 99]
abbrev dktX2_line_8 : List UInt8 := dkwX2_line_8 ++ dktX2_line_9
def dkwX2_line_7 : List UInt8 := [42, 182, 0, 151, 167, 0, 154, 42, 42, 180, 0, 111, 180, 0, 126, 182, 0, 154, 61, 42, 42, 180, 0, 111]
abbrev dktX2_line_7 : List UInt8 := dkwX2_line_7 ++ dktX2_line_8
def dkwX2_line_6 : List UInt8 := [42, 180, 0, 111, 42, 5, 16, 60, 182, 0, 143, 181, 0, 146, 167, 0, 168, 42, 182, 0, 148, 167, 0, 161]
abbrev dktX2_line_6 : List UInt8 := dkwX2_line_6 ++ dktX2_line_7
def dkwX2_line_5 : List UInt8 := [170, 0, 0, 0, 0, 0, 158, 0, 0, 0, 0, 0, 0, 0, 5, 0, 0, 0, 39, 0, 0, 0, 56, 0, 0, 0, 63, 0, 0, 0, 70, 0, 0, 0, 124, 0, 0, 0, 141]
abbrev dktX2_line_5 : List UInt8 := dkwX2_line_5 ++ dktX2_line_6
def dkwX2_line_4 : List UInt8 := [182, 0, 93, 27]
abbrev dktX2_line_4 : List UInt8 := dkwX2_line_4 ++ dktX2_line_5
def dkwX2_line_3 : List UInt8 := [160, 0, 9, 42, 6, 182, 0, 85, 191, 42, 89, 180, 0, 105, 4, 27, 120, 128, 181, 0, 105, 42]
abbrev dktX2_line_3 : List UInt8 := dkwX2_line_3 ++ dktX2_line_4
def dkwX2_line_2 : List UInt8 := [182, 0, 85, 191, 27, 7, 159, 0, 8, 27, 8, 160, 0, 21, 42, 180, 0, 105, 27, 122, 4, 126, 4]
abbrev dktX2_line_2 : List UInt8 := dkwX2_line_2 ++ dktX2_line_3
def dkwX2_line_1 : List UInt8 := [158, 0, 9, 42, 4, 182, 0, 85, 191, 42, 180, 0, 47, 60, 42, 27, 182, 0, 139, 153, 0, 9, 42, 5]
abbrev dktX2_line_1 : List UInt8 := dkwX2_line_1 ++ dktX2_line_2
def dkwX2_line_0 : List UInt8 := [42, 3, 16, 6, 182, 0, 132, 153, 0, 20, 42, 180, 0, 47, 154, 0, 19, 42, 180, 0, 111, 180, 0, 136]
abbrev dktX2_line_0 : List UInt8 := dkwX2_line_0 ++ dktX2_line_1
theorem dksX2_line_0 : cX2_line.data.toList.drop 0 = dktX2_line_0 := by decide +kernel
theorem dksX2_line_1 : cX2_line.data.toList.drop 24 = dktX2_line_1 := dk_seg dksX2_line_0 24 rfl rfl
theorem dksX2_line_2 : cX2_line.data.toList.drop 48 = dktX2_line_2 := dk_seg dksX2_line_1 24 rfl rfl
theorem dksX2_line_3 : cX2_line.data.toList.drop 71 = dktX2_line_3 := dk_seg dksX2_line_2 23 rfl rfl
theorem dksX2_line_4 : cX2_line.data.toList.drop 93 = dktX2_line_4 := dk_seg dksX2_line_3 22 rfl rfl
theorem dksX2_line_5 : cX2_line.data.toList.drop 97 = dktX2_line_5 := dk_seg dksX2_line_4 4 rfl rfl
theorem dksX2_line_6 : cX2_line.data.toList.drop 136 = dktX2_line_6 := dk_seg dksX2_line_5 39 rfl rfl
theorem dksX2_line_7 : cX2_line.data.toList.drop 160 = dktX2_line_7 := dk_seg dksX2_line_6 24 rfl rfl
theorem dksX2_line_8 : cX2_line.data.toList.drop 184 = dktX2_line_8 := dk_seg dksX2_line_7 24 rfl rfl
theorem dksX2_line_9 : cX2_line.data.toList.drop 208 = dktX2_line_9 := dk_seg dksX2_line_8 24 rfl rfl
theorem dksX2_line_10 : cX2_line.data.toList.drop 232 = dktX2_line_10 := dk_seg dksX2_line_9 24 rfl rfl
theorem dksX2_line_11 : cX2_line.data.toList.drop 256 = dktX2_line_11 := dk_seg dksX2_line_10 24 rfl rfl
theorem dksX2_line_12 : cX2_line.data.toList.drop 279 = dktX2_line_12 := dk_seg dksX2_line_11 23 rfl rfl
theorem dksX2_line_13 : cX2_line.data.toList.drop 301 = dktX2_line_13 := dk_seg dksX2_line_12 22 rfl rfl
theorem dksX2_line_14 : cX2_line.data.toList.drop 324 = dktX2_line_14 := dk_seg dksX2_line_13 23 rfl rfl
theorem dksX2_line_15 : cX2_line.data.toList.drop 347 = dktX2_line_15 := dk_seg dksX2_line_14 23 rfl rfl
theorem dX2_line_0 : decode cX2_line 0 = .ok (.aload_n 0, 1) := dk_42 (dk_at dksX2_line_0 0 rfl rfl)
theorem dX2_line_1 : decode cX2_line 1 = .ok (.iconst 0, 1) := dk_3 (dk_at dksX2_line_0 1 rfl rfl)
theorem dX2_line_2 : decode cX2_line 2 = .ok (.bipush 6, 2) := dk_16 6 (dk_at dksX2_line_0 2 rfl rfl)
theorem dX2_line_4 : decode cX2_line 4 = .ok (.invokevirtual 132, 3) := dk_182 0 132 (dk_at dksX2_line_0 4 rfl rfl)
theorem dX2_line_7 : decode cX2_line 7 = .ok (.ifCond .eq 20, 3) := dk_153 0 20 (dk_at dksX2_line_0 7 rfl rfl)
theorem dX2_line_10 : decode cX2_line 10 = .ok (.aload_n 0, 1) := dk_42 (dk_at dksX2_line_0 10 rfl rfl)
theorem dX2_line_11 : decode cX2_line 11 = .ok (.getfield 47, 3) := dk_180 0 47 (dk_at dksX2_line_0 11 rfl rfl)
theorem dX2_line_14 : decode cX2_line 14 = .ok (.ifCond .ne 19, 3) := dk_154 0 19 (dk_at dksX2_line_0 14 rfl rfl)
theorem dX2_line_17 : decode cX2_line 17 = .ok (.aload_n 0, 1) := dk_42 (dk_at dksX2_line_0 17 rfl rfl)
theorem dX2_line_18 : decode cX2_line 18 = .ok (.getfield 111, 3) := dk_180 0 111 (dk_at dksX2_line_0 18 rfl rfl)
theorem dX2_line_21 : decode cX2_line 21 = .ok (.getfield 136, 3) := dk_180 0 136 (dk_at dksX2_line_0 21 rfl rfl)
theorem dX2_line_24 : decode cX2_line 24 = .ok (.ifCond .le 9, 3) := dk_158 0 9 (dk_at dksX2_line_1 0 rfl rfl)
theorem dX2_line_27 : decode cX2_line 27 = .ok (.aload_n 0, 1) := dk_42 (dk_at dksX2_line_1 3 rfl rfl)
theorem dX2_line_28 : decode cX2_line 28 = .ok (.iconst 1, 1) := dk_4 (dk_at dksX2_line_1 4 rfl rfl)
theorem dX2_line_29 : decode cX2_line 29 = .ok (.invokevirtual 85, 3) := dk_182 0 85 (dk_at dksX2_line_1 5 rfl rfl)
theorem dX2_line_32 : decode cX2_line 32 = .ok (.athrow, 1) := dk_191 (dk_at dksX2_line_1 8 rfl rfl)
theorem dX2_line_33 : decode cX2_line 33 = .ok (.aload_n 0, 1) := dk_42 (dk_at dksX2_line_1 9 rfl rfl)
theorem dX2_line_34 : decode cX2_line 34 = .ok (.getfield 47, 3) := dk_180 0 47 (dk_at dksX2_line_1 10 rfl rfl)
theorem dX2_line_37 : decode cX2_line 37 = .ok (.istore_n 1, 1) := dk_60 (dk_at dksX2_line_1 13 rfl rfl)
theorem dX2_line_38 : decode cX2_line 38 = .ok (.aload_n 0, 1) := dk_42 (dk_at dksX2_line_1 14 rfl rfl)
theorem dX2_line_39 : decode cX2_line 39 = .ok (.iload_n 1, 1) := dk_27 (dk_at dksX2_line_1 15 rfl rfl)
theorem dX2_line_40 : decode cX2_line 40 = .ok (.invokevirtual 139, 3) := dk_182 0 139 (dk_at dksX2_line_1 16 rfl rfl)
theorem dX2_line_43 : decode cX2_line 43 = .ok (.ifCond .eq 9, 3) := dk_153 0 9 (dk_at dksX2_line_1 19 rfl rfl)
theorem dX2_line_46 : decode cX2_line 46 = .ok (.aload_n 0, 1) := dk_42 (dk_at dksX2_line_1 22 rfl rfl)
theorem dX2_line_47 : decode cX2_line 47 = .ok (.iconst 2, 1) := dk_5 (dk_at dksX2_line_1 23 rfl rfl)
theorem dX2_line_48 : decode cX2_line 48 = .ok (.invokevirtual 85, 3) := dk_182 0 85 (dk_at dksX2_line_2 0 rfl rfl)
theorem dX2_line_51 : decode cX2_line 51 = .ok (.athrow, 1) := dk_191 (dk_at dksX2_line_2 3 rfl rfl)
theorem dX2_line_52 : decode cX2_line 52 = .ok (.iload_n 1, 1) := dk_27 (dk_at dksX2_line_2 4 rfl rfl)
theorem dX2_line_53 : decode cX2_line 53 = .ok (.iconst 4, 1) := dk_7 (dk_at dksX2_line_2 5 rfl rfl)
theorem dX2_line_54 : decode cX2_line 54 = .ok (.if_icmp .eq 8, 3) := dk_159 0 8 (dk_at dksX2_line_2 6 rfl rfl)
theorem dX2_line_57 : decode cX2_line 57 = .ok (.iload_n 1, 1) := dk_27 (dk_at dksX2_line_2 9 rfl rfl)
theorem dX2_line_58 : decode cX2_line 58 = .ok (.iconst 5, 1) := dk_8 (dk_at dksX2_line_2 10 rfl rfl)
theorem dX2_line_59 : decode cX2_line 59 = .ok (.if_icmp .ne 21, 3) := dk_160 0 21 (dk_at dksX2_line_2 11 rfl rfl)
theorem dX2_line_62 : decode cX2_line 62 = .ok (.aload_n 0, 1) := dk_42 (dk_at dksX2_line_2 14 rfl rfl)
theorem dX2_line_63 : decode cX2_line 63 = .ok (.getfield 105, 3) := dk_180 0 105 (dk_at dksX2_line_2 15 rfl rfl)
theorem dX2_line_66 : decode cX2_line 66 = .ok (.iload_n 1, 1) := dk_27 (dk_at dksX2_line_2 18 rfl rfl)
theorem dX2_line_67 : decode cX2_line 67 = .ok (.ishr, 1) := dk_122 (dk_at dksX2_line_2 19 rfl rfl)
theorem dX2_line_68 : decode cX2_line 68 = .ok (.iconst 1, 1) := dk_4 (dk_at dksX2_line_2 20 rfl rfl)
theorem dX2_line_69 : decode cX2_line 69 = .ok (.iand, 1) := dk_126 (dk_at dksX2_line_2 21 rfl rfl)
theorem dX2_line_70 : decode cX2_line 70 = .ok (.iconst 1, 1) := dk_4 (dk_at dksX2_line_2 22 rfl rfl)
theorem dX2_line_71 : decode cX2_line 71 = .ok (.if_icmp .ne 9, 3) := dk_160 0 9 (dk_at dksX2_line_3 0 rfl rfl)
theorem dX2_line_74 : decode cX2_line 74 = .ok (.aload_n 0, 1) := dk_42 (dk_at dksX2_line_3 3 rfl rfl)
theorem dX2_line_75 : decode cX2_line 75 = .ok (.iconst 3, 1) := dk_6 (dk_at dksX2_line_3 4 rfl rfl)
theorem dX2_line_76 : decode cX2_line 76 = .ok (.invokevirtual 85, 3) := dk_182 0 85 (dk_at dksX2_line_3 5 rfl rfl)
theorem dX2_line_79 : decode cX2_line 79 = .ok (.athrow, 1) := dk_191 (dk_at dksX2_line_3 8 rfl rfl)
theorem dX2_line_80 : decode cX2_line 80 = .ok (.aload_n 0, 1) := dk_42 (dk_at dksX2_line_3 9 rfl rfl)
theorem dX2_line_81 : decode cX2_line 81 = .ok (.dup, 1) := dk_89 (dk_at dksX2_line_3 10 rfl rfl)
theorem dX2_line_82 : decode cX2_line 82 = .ok (.getfield 105, 3) := dk_180 0 105 (dk_at dksX2_line_3 11 rfl rfl)
theorem dX2_line_85 : decode cX2_line 85 = .ok (.iconst 1, 1) := dk_4 (dk_at dksX2_line_3 14 rfl rfl)
theorem dX2_line_86 : decode cX2_line 86 = .ok (.iload_n 1, 1) := dk_27 (dk_at dksX2_line_3 15 rfl rfl)
theorem dX2_line_87 : decode cX2_line 87 = .ok (.ishl, 1) := dk_120 (dk_at dksX2_line_3 16 rfl rfl)
theorem dX2_line_88 : decode cX2_line 88 = .ok (.ior, 1) := dk_128 (dk_at dksX2_line_3 17 rfl rfl)
theorem dX2_line_89 : decode cX2_line 89 = .ok (.putfield 105, 3) := dk_181 0 105 (dk_at dksX2_line_3 18 rfl rfl)
theorem dX2_line_92 : decode cX2_line 92 = .ok (.aload_n 0, 1) := dk_42 (dk_at dksX2_line_3 21 rfl rfl)
theorem dX2_line_93 : decode cX2_line 93 = .ok (.invokevirtual 93, 3) := dk_182 0 93 (dk_at dksX2_line_4 0 rfl rfl)
theorem dX2_line_96 : decode cX2_line 96 = .ok (.iload_n 1, 1) := dk_27 (dk_at dksX2_line_4 3 rfl rfl)
theorem dX2_line_97 : decode cX2_line 97 = .ok (.tableswitch 158 0 5 #[39, 56, 63, 70, 124, 141], 39) := by decide +kernel
theorem dX2_line_136 : decode cX2_line 136 = .ok (.aload_n 0, 1) := dk_42 (dk_at dksX2_line_6 0 rfl rfl)
theorem dX2_line_137 : decode cX2_line 137 = .ok (.getfield 111, 3) := dk_180 0 111 (dk_at dksX2_line_6 1 rfl rfl)
theorem dX2_line_140 : decode cX2_line 140 = .ok (.aload_n 0, 1) := dk_42 (dk_at dksX2_line_6 4 rfl rfl)
theorem dX2_line_141 : decode cX2_line 141 = .ok (.iconst 2, 1) := dk_5 (dk_at dksX2_line_6 5 rfl rfl)
theorem dX2_line_142 : decode cX2_line 142 = .ok (.bipush 60, 2) := dk_16 60 (dk_at dksX2_line_6 6 rfl rfl)
theorem dX2_line_144 : decode cX2_line 144 = .ok (.invokevirtual 143, 3) := dk_182 0 143 (dk_at dksX2_line_6 8 rfl rfl)
theorem dX2_line_147 : decode cX2_line 147 = .ok (.putfield 146, 3) := dk_181 0 146 (dk_at dksX2_line_6 11 rfl rfl)
theorem dX2_line_150 : decode cX2_line 150 = .ok (.goto 168, 3) := dk_167 0 168 (dk_at dksX2_line_6 14 rfl rfl)
theorem dX2_line_153 : decode cX2_line 153 = .ok (.aload_n 0, 1) := dk_42 (dk_at dksX2_line_6 17 rfl rfl)
theorem dX2_line_154 : decode cX2_line 154 = .ok (.invokevirtual 148, 3) := dk_182 0 148 (dk_at dksX2_line_6 18 rfl rfl)
theorem dX2_line_157 : decode cX2_line 157 = .ok (.goto 161, 3) := dk_167 0 161 (dk_at dksX2_line_6 21 rfl rfl)
theorem dX2_line_160 : decode cX2_line 160 = .ok (.aload_n 0, 1) := dk_42 (dk_at dksX2_line_7 0 rfl rfl)
theorem dX2_line_161 : decode cX2_line 161 = .ok (.invokevirtual 151, 3) := dk_182 0 151 (dk_at dksX2_line_7 1 rfl rfl)
theorem dX2_line_164 : decode cX2_line 164 = .ok (.goto 154, 3) := dk_167 0 154 (dk_at dksX2_line_7 4 rfl rfl)
theorem dX2_line_167 : decode cX2_line 167 = .ok (.aload_n 0, 1) := dk_42 (dk_at dksX2_line_7 7 rfl rfl)
theorem dX2_line_168 : decode cX2_line 168 = .ok (.aload_n 0, 1) := dk_42 (dk_at dksX2_line_7 8 rfl rfl)
theorem dX2_line_169 : decode cX2_line 169 = .ok (.getfield 111, 3) := dk_180 0 111 (dk_at dksX2_line_7 9 rfl rfl)
theorem dX2_line_172 : decode cX2_line 172 = .ok (.getfield 126, 3) := dk_180 0 126 (dk_at dksX2_line_7 12 rfl rfl)
theorem dX2_line_175 : decode cX2_line 175 = .ok (.invokevirtual 154, 3) := dk_182 0 154 (dk_at dksX2_line_7 15 rfl rfl)
theorem dX2_line_178 : decode cX2_line 178 = .ok (.istore_n 2, 1) := dk_61 (dk_at dksX2_line_7 18 rfl rfl)
theorem dX2_line_179 : decode cX2_line 179 = .ok (.aload_n 0, 1) := dk_42 (dk_at dksX2_line_7 19 rfl rfl)
theorem dX2_line_180 : decode cX2_line 180 = .ok (.aload_n 0, 1) := dk_42 (dk_at dksX2_line_7 20 rfl rfl)
theorem dX2_line_181 : decode cX2_line 181 = .ok (.getfield 111, 3) := dk_180 0 111 (dk_at dksX2_line_7 21 rfl rfl)
theorem dX2_line_184 : decode cX2_line 184 = .ok (.getfield 118, 3) := dk_180 0 118 (dk_at dksX2_line_8 0 rfl rfl)
theorem dX2_line_187 : decode cX2_line 187 = .ok (.invokevirtual 154, 3) := dk_182 0 154 (dk_at dksX2_line_8 3 rfl rfl)
theorem dX2_line_190 : decode cX2_line 190 = .ok (.istore_n 3, 1) := dk_62 (dk_at dksX2_line_8 6 rfl rfl)
theorem dX2_line_191 : decode cX2_line 191 = .ok (.aload_n 0, 1) := dk_42 (dk_at dksX2_line_8 7 rfl rfl)
theorem dX2_line_192 : decode cX2_line 192 = .ok (.getfield 111, 3) := dk_180 0 111 (dk_at dksX2_line_8 8 rfl rfl)
theorem dX2_line_195 : decode cX2_line 195 = .ok (.getfield 129, 3) := dk_180 0 129 (dk_at dksX2_line_8 11 rfl rfl)
theorem dX2_line_198 : decode cX2_line 198 = .ok (.new 158, 3) := dk_187 0 158 (dk_at dksX2_line_8 14 rfl rfl)
theorem dX2_line_201 : decode cX2_line 201 = .ok (.dup, 1) := dk_89 (dk_at dksX2_line_8 17 rfl rfl)
theorem dX2_line_202 : decode cX2_line 202 = .ok (.iload_n 2, 1) := dk_28 (dk_at dksX2_line_8 18 rfl rfl)
theorem dX2_line_203 : decode cX2_line 203 = .ok (.iload_n 3, 1) := dk_29 (dk_at dksX2_line_8 19 rfl rfl)
theorem dX2_line_204 : decode cX2_line 204 = .ok (.aload_n 0, 1) := dk_42 (dk_at dksX2_line_8 20 rfl rfl)
theorem dX2_line_205 : decode cX2_line 205 = .ok (.iconst 0, 1) := dk_3 (dk_at dksX2_line_8 21 rfl rfl)
theorem dX2_line_206 : decode cX2_line 206 = .ok (.bipush 99, 2) := dk_16 99 (dk_at dksX2_line_8 22 rfl rfl)
theorem dX2_line_208 : decode cX2_line 208 = .ok (.invokevirtual 143, 3) := dk_182 0 143 (dk_at dksX2_line_9 0 rfl rfl)
theorem dX2_line_211 : decode cX2_line 211 = .ok (.invokespecial 160, 3) := dk_183 0 160 (dk_at dksX2_line_9 3 rfl rfl)
theorem dX2_line_214 : decode cX2_line 214 = .ok (.invokevirtual 163, 3) := dk_182 0 163 (dk_at dksX2_line_9 6 rfl rfl)
theorem dX2_line_217 : decode cX2_line 217 = .ok (.pop, 1) := dk_87 (dk_at dksX2_line_9 9 rfl rfl)
theorem dX2_line_218 : decode cX2_line 218 = .ok (.goto 100, 3) := dk_167 0 100 (dk_at dksX2_line_9 10 rfl rfl)
theorem dX2_line_221 : decode cX2_line 221 = .ok (.aload_n 0, 1) := dk_42 (dk_at dksX2_line_9 13 rfl rfl)
theorem dX2_line_222 : decode cX2_line 222 = .ok (.getfield 111, 3) := dk_180 0 111 (dk_at dksX2_line_9 14 rfl rfl)
theorem dX2_line_225 : decode cX2_line 225 = .ok (.aload_n 0, 1) := dk_42 (dk_at dksX2_line_9 17 rfl rfl)
theorem dX2_line_226 : decode cX2_line 226 = .ok (.iconst 0, 1) := dk_3 (dk_at dksX2_line_9 18 rfl rfl)
theorem dX2_line_227 : decode cX2_line 227 = .ok (.bipush 100, 2) := dk_16 100 (dk_at dksX2_line_9 19 rfl rfl)
theorem dX2_line_229 : decode cX2_line 229 = .ok (.invokevirtual 143, 3) := dk_182 0 143 (dk_at dksX2_line_9 21 rfl rfl)
theorem dX2_line_232 : decode cX2_line 232 = .ok (.putfield 167, 3) := dk_181 0 167 (dk_at dksX2_line_10 0 rfl rfl)
theorem dX2_line_235 : decode cX2_line 235 = .ok (.goto 83, 3) := dk_167 0 83 (dk_at dksX2_line_10 3 rfl rfl)
theorem dX2_line_238 : decode cX2_line 238 = .ok (.aload_n 0, 1) := dk_42 (dk_at dksX2_line_10 6 rfl rfl)
theorem dX2_line_239 : decode cX2_line 239 = .ok (.getfield 111, 3) := dk_180 0 111 (dk_at dksX2_line_10 7 rfl rfl)
theorem dX2_line_242 : decode cX2_line 242 = .ok (.aload_n 0, 1) := dk_42 (dk_at dksX2_line_10 10 rfl rfl)
theorem dX2_line_243 : decode cX2_line 243 = .ok (.iconst 0, 1) := dk_3 (dk_at dksX2_line_10 11 rfl rfl)
theorem dX2_line_244 : decode cX2_line 244 = .ok (.ldc 57, 2) := dk_18 57 (dk_at dksX2_line_10 12 rfl rfl)
theorem dX2_line_246 : decode cX2_line 246 = .ok (.invokevirtual 143, 3) := dk_182 0 143 (dk_at dksX2_line_10 14 rfl rfl)
theorem dX2_line_249 : decode cX2_line 249 = .ok (.putfield 170, 3) := dk_181 0 170 (dk_at dksX2_line_10 17 rfl rfl)
theorem dX2_line_252 : decode cX2_line 252 = .ok (.goto 66, 3) := dk_167 0 66 (dk_at dksX2_line_10 20 rfl rfl)
theorem dX2_line_255 : decode cX2_line 255 = .ok (.aload_n 0, 1) := dk_42 (dk_at dksX2_line_10 23 rfl rfl)
theorem dX2_line_256 : decode cX2_line 256 = .ok (.bipush 7, 2) := dk_16 7 (dk_at dksX2_line_11 0 rfl rfl)
theorem dX2_line_258 : decode cX2_line 258 = .ok (.bipush 9, 2) := dk_16 9 (dk_at dksX2_line_11 2 rfl rfl)
theorem dX2_line_260 : decode cX2_line 260 = .ok (.invokevirtual 132, 3) := dk_182 0 132 (dk_at dksX2_line_11 4 rfl rfl)
theorem dX2_line_263 : decode cX2_line 263 = .ok (.ifCond .ne 9, 3) := dk_154 0 9 (dk_at dksX2_line_11 7 rfl rfl)
theorem dX2_line_266 : decode cX2_line 266 = .ok (.aload_n 0, 1) := dk_42 (dk_at dksX2_line_11 10 rfl rfl)
theorem dX2_line_267 : decode cX2_line 267 = .ok (.iconst 1, 1) := dk_4 (dk_at dksX2_line_11 11 rfl rfl)
theorem dX2_line_268 : decode cX2_line 268 = .ok (.invokevirtual 85, 3) := dk_182 0 85 (dk_at dksX2_line_11 12 rfl rfl)
theorem dX2_line_271 : decode cX2_line 271 = .ok (.athrow, 1) := dk_191 (dk_at dksX2_line_11 15 rfl rfl)
theorem dX2_line_272 : decode cX2_line 272 = .ok (.aload_n 0, 1) := dk_42 (dk_at dksX2_line_11 16 rfl rfl)
theorem dX2_line_273 : decode cX2_line 273 = .ok (.getfield 47, 3) := dk_180 0 47 (dk_at dksX2_line_11 17 rfl rfl)
theorem dX2_line_276 : decode cX2_line 276 = .ok (.bipush 7, 2) := dk_16 7 (dk_at dksX2_line_11 20 rfl rfl)
theorem dX2_line_278 : decode cX2_line 278 = .ok (.isub, 1) := dk_100 (dk_at dksX2_line_11 22 rfl rfl)
theorem dX2_line_279 : decode cX2_line 279 = .ok (.istore 4, 2) := dk_54 4 (dk_at dksX2_line_12 0 rfl rfl)
theorem dX2_line_281 : decode cX2_line 281 = .ok (.aload_n 0, 1) := dk_42 (dk_at dksX2_line_12 2 rfl rfl)
theorem dX2_line_282 : decode cX2_line 282 = .ok (.getfield 111, 3) := dk_180 0 111 (dk_at dksX2_line_12 3 rfl rfl)
theorem dX2_line_285 : decode cX2_line 285 = .ok (.getfield 173, 3) := dk_180 0 173 (dk_at dksX2_line_12 6 rfl rfl)
theorem dX2_line_288 : decode cX2_line 288 = .ok (.iload 4, 2) := dk_21 4 (dk_at dksX2_line_12 9 rfl rfl)
theorem dX2_line_290 : decode cX2_line 290 = .ok (.aaload, 1) := dk_50 (dk_at dksX2_line_12 11 rfl rfl)
theorem dX2_line_291 : decode cX2_line 291 = .ok (.ifnull 9, 3) := dk_198 0 9 (dk_at dksX2_line_12 12 rfl rfl)
theorem dX2_line_294 : decode cX2_line 294 = .ok (.aload_n 0, 1) := dk_42 (dk_at dksX2_line_12 15 rfl rfl)
theorem dX2_line_295 : decode cX2_line 295 = .ok (.iconst 3, 1) := dk_6 (dk_at dksX2_line_12 16 rfl rfl)
theorem dX2_line_296 : decode cX2_line 296 = .ok (.invokevirtual 85, 3) := dk_182 0 85 (dk_at dksX2_line_12 17 rfl rfl)
theorem dX2_line_299 : decode cX2_line 299 = .ok (.athrow, 1) := dk_191 (dk_at dksX2_line_12 20 rfl rfl)
theorem dX2_line_300 : decode cX2_line 300 = .ok (.aload_n 0, 1) := dk_42 (dk_at dksX2_line_12 21 rfl rfl)
theorem dX2_line_301 : decode cX2_line 301 = .ok (.invokevirtual 93, 3) := dk_182 0 93 (dk_at dksX2_line_13 0 rfl rfl)
theorem dX2_line_304 : decode cX2_line 304 = .ok (.aload_n 0, 1) := dk_42 (dk_at dksX2_line_13 3 rfl rfl)
theorem dX2_line_305 : decode cX2_line 305 = .ok (.getfield 111, 3) := dk_180 0 111 (dk_at dksX2_line_13 4 rfl rfl)
theorem dX2_line_308 : decode cX2_line 308 = .ok (.getfield 173, 3) := dk_180 0 173 (dk_at dksX2_line_13 7 rfl rfl)
theorem dX2_line_311 : decode cX2_line 311 = .ok (.iload 4, 2) := dk_21 4 (dk_at dksX2_line_13 10 rfl rfl)
theorem dX2_line_313 : decode cX2_line 313 = .ok (.aload_n 0, 1) := dk_42 (dk_at dksX2_line_13 12 rfl rfl)
theorem dX2_line_314 : decode cX2_line 314 = .ok (.invokevirtual 177, 3) := dk_182 0 177 (dk_at dksX2_line_13 13 rfl rfl)
theorem dX2_line_317 : decode cX2_line 317 = .ok (.aastore, 1) := dk_83 (dk_at dksX2_line_13 16 rfl rfl)
theorem dX2_line_318 : decode cX2_line 318 = .ok (.aload_n 0, 1) := dk_42 (dk_at dksX2_line_13 17 rfl rfl)
theorem dX2_line_319 : decode cX2_line 319 = .ok (.bipush 59, 2) := dk_16 59 (dk_at dksX2_line_13 18 rfl rfl)
theorem dX2_line_321 : decode cX2_line 321 = .ok (.invokevirtual 181, 3) := dk_182 0 181 (dk_at dksX2_line_13 20 rfl rfl)
theorem dX2_line_324 : decode cX2_line 324 = .ok (.ifCond .ne 9, 3) := dk_154 0 9 (dk_at dksX2_line_14 0 rfl rfl)
theorem dX2_line_327 : decode cX2_line 327 = .ok (.aload_n 0, 1) := dk_42 (dk_at dksX2_line_14 3 rfl rfl)
theorem dX2_line_328 : decode cX2_line 328 = .ok (.iconst 1, 1) := dk_4 (dk_at dksX2_line_14 4 rfl rfl)
theorem dX2_line_329 : decode cX2_line 329 = .ok (.invokevirtual 85, 3) := dk_182 0 85 (dk_at dksX2_line_14 5 rfl rfl)
theorem dX2_line_332 : decode cX2_line 332 = .ok (.athrow, 1) := dk_191 (dk_at dksX2_line_14 8 rfl rfl)
theorem dX2_line_333 : decode cX2_line 333 = .ok (.aload_n 0, 1) := dk_42 (dk_at dksX2_line_14 9 rfl rfl)
theorem dX2_line_334 : decode cX2_line 334 = .ok (.invokevirtual 93, 3) := dk_182 0 93 (dk_at dksX2_line_14 10 rfl rfl)
theorem dX2_line_337 : decode cX2_line 337 = .ok (.aload_n 0, 1) := dk_42 (dk_at dksX2_line_14 13 rfl rfl)
theorem dX2_line_338 : decode cX2_line 338 = .ok (.getfield 111, 3) := dk_180 0 111 (dk_at dksX2_line_14 14 rfl rfl)
theorem dX2_line_341 : decode cX2_line 341 = .ok (.dup, 1) := dk_89 (dk_at dksX2_line_14 17 rfl rfl)
theorem dX2_line_342 : decode cX2_line 342 = .ok (.getfield 136, 3) := dk_180 0 136 (dk_at dksX2_line_14 18 rfl rfl)
theorem dX2_line_345 : decode cX2_line 345 = .ok (.iconst 1, 1) := dk_4 (dk_at dksX2_line_14 21 rfl rfl)
theorem dX2_line_346 : decode cX2_line 346 = .ok (.iadd, 1) := dk_96 (dk_at dksX2_line_14 22 rfl rfl)
theorem dX2_line_347 : decode cX2_line 347 = .ok (.putfield 136, 3) := dk_181 0 136 (dk_at dksX2_line_15 0 rfl rfl)
theorem dX2_line_350 : decode cX2_line 350 = .ok (.return_, 1) := dk_177 (dk_at dksX2_line_15 3 rfl rfl)
abbrev cX2_isWord : ByteArray := prog_14_method_8_code
def yX2_isWord : MethodName := ⟨RX2, "isWord", "(II)Z"⟩
def dkwX2_isWord_1 : List UInt8 := [167, 0, 4, 3, 172]
abbrev dktX2_isWord_1 : List UInt8 := dkwX2_isWord_1 ++ []
def dkwX2_isWord_0 : List UInt8 := [42, 180, 0, 33, 154, 0, 22, 42, 180, 0, 47, 133, 27, 133, 28, 133, 184, 0, 40, 153, 0, 7, 4]
abbrev dktX2_isWord_0 : List UInt8 := dkwX2_isWord_0 ++ dktX2_isWord_1
theorem dksX2_isWord_0 : cX2_isWord.data.toList.drop 0 = dktX2_isWord_0 := by decide +kernel
theorem dksX2_isWord_1 : cX2_isWord.data.toList.drop 23 = dktX2_isWord_1 := dk_seg dksX2_isWord_0 23 rfl rfl
theorem dX2_isWord_0 : decode cX2_isWord 0 = .ok (.aload_n 0, 1) := dk_42 (dk_at dksX2_isWord_0 0 rfl rfl)
theorem dX2_isWord_1 : decode cX2_isWord 1 = .ok (.getfield 33, 3) := dk_180 0 33 (dk_at dksX2_isWord_0 1 rfl rfl)
theorem dX2_isWord_4 : decode cX2_isWord 4 = .ok (.ifCond .ne 22, 3) := dk_154 0 22 (dk_at dksX2_isWord_0 4 rfl rfl)
theorem dX2_isWord_7 : decode cX2_isWord 7 = .ok (.aload_n 0, 1) := dk_42 (dk_at dksX2_isWord_0 7 rfl rfl)
theorem dX2_isWord_8 : decode cX2_isWord 8 = .ok (.getfield 47, 3) := dk_180 0 47 (dk_at dksX2_isWord_0 8 rfl rfl)
theorem dX2_isWord_11 : decode cX2_isWord 11 = .ok (.i2l, 1) := dk_133 (dk_at dksX2_isWord_0 11 rfl rfl)
theorem dX2_isWord_12 : decode cX2_isWord 12 = .ok (.iload_n 1, 1) := dk_27 (dk_at dksX2_isWord_0 12 rfl rfl)
theorem dX2_isWord_13 : decode cX2_isWord 13 = .ok (.i2l, 1) := dk_133 (dk_at dksX2_isWord_0 13 rfl rfl)
theorem dX2_isWord_14 : decode cX2_isWord 14 = .ok (.iload_n 2, 1) := dk_28 (dk_at dksX2_isWord_0 14 rfl rfl)
theorem dX2_isWord_15 : decode cX2_isWord 15 = .ok (.i2l, 1) := dk_133 (dk_at dksX2_isWord_0 15 rfl rfl)
theorem dX2_isWord_16 : decode cX2_isWord 16 = .ok (.invokestatic 40, 3) := dk_184 0 40 (dk_at dksX2_isWord_0 16 rfl rfl)
theorem dX2_isWord_19 : decode cX2_isWord 19 = .ok (.ifCond .eq 7, 3) := dk_153 0 7 (dk_at dksX2_isWord_0 19 rfl rfl)
theorem dX2_isWord_22 : decode cX2_isWord 22 = .ok (.iconst 1, 1) := dk_4 (dk_at dksX2_isWord_0 22 rfl rfl)
theorem dX2_isWord_23 : decode cX2_isWord 23 = .ok (.goto 4, 3) := dk_167 0 4 (dk_at dksX2_isWord_1 0 rfl rfl)
theorem dX2_isWord_26 : decode cX2_isWord 26 = .ok (.iconst 0, 1) := dk_3 (dk_at dksX2_isWord_1 3 rfl rfl)
theorem dX2_isWord_27 : decode cX2_isWord 27 = .ok (.ireturn, 1) := dk_172 (dk_at dksX2_isWord_1 4 rfl rfl)
abbrev cX2_wrong : ByteArray := prog_14_method_7_code
def yX2_wrong : MethodName := ⟨RX2, "wrong", "(I)LTroughTreaty$Fault;"⟩
def dkwX2_wrong_0 : List UInt8 := [187, 0, 80, 89, 27, 42, 180, 0, 30, 183, 0, 82, 176]
abbrev dktX2_wrong_0 : List UInt8 := dkwX2_wrong_0 ++ []
theorem dksX2_wrong_0 : cX2_wrong.data.toList.drop 0 = dktX2_wrong_0 := by decide +kernel
theorem dX2_wrong_0 : decode cX2_wrong 0 = .ok (.new 80, 3) := dk_187 0 80 (dk_at dksX2_wrong_0 0 rfl rfl)
theorem dX2_wrong_3 : decode cX2_wrong 3 = .ok (.dup, 1) := dk_89 (dk_at dksX2_wrong_0 3 rfl rfl)
theorem dX2_wrong_4 : decode cX2_wrong 4 = .ok (.iload_n 1, 1) := dk_27 (dk_at dksX2_wrong_0 4 rfl rfl)
theorem dX2_wrong_5 : decode cX2_wrong 5 = .ok (.aload_n 0, 1) := dk_42 (dk_at dksX2_wrong_0 5 rfl rfl)
theorem dX2_wrong_6 : decode cX2_wrong 6 = .ok (.getfield 30, 3) := dk_180 0 30 (dk_at dksX2_wrong_0 6 rfl rfl)
theorem dX2_wrong_9 : decode cX2_wrong 9 = .ok (.invokespecial 82, 3) := dk_183 0 82 (dk_at dksX2_wrong_0 9 rfl rfl)
theorem dX2_wrong_12 : decode cX2_wrong 12 = .ok (.areturn, 1) := dk_176 (dk_at dksX2_wrong_0 12 rfl rfl)
abbrev cX2_isFull : ByteArray := prog_14_method_14_code
def yX2_isFull : MethodName := ⟨RX2, "isFull", "(I)Z"⟩
def dkwX2_isFull_2 : List UInt8 := [180, 0, 111, 180, 0, 129, 182, 0, 122, 16, 12, 160, 0, 7, 4, 167, 0, 4, 3, 172]
abbrev dktX2_isFull_2 : List UInt8 := dkwX2_isFull_2 ++ []
def dkwX2_isFull_1 : List UInt8 := [160, 0, 18, 42, 180, 0, 111, 180, 0, 126, 182, 0, 122, 16, 6, 159, 0, 23, 27, 6, 160, 0, 22, 42]
abbrev dktX2_isFull_1 : List UInt8 := dkwX2_isFull_1 ++ dktX2_isFull_2
def dkwX2_isFull_0 : List UInt8 := [27, 4, 160, 0, 18, 42, 180, 0, 111, 180, 0, 118, 182, 0, 122, 16, 6, 159, 0, 43, 27, 5]
abbrev dktX2_isFull_0 : List UInt8 := dkwX2_isFull_0 ++ dktX2_isFull_1
theorem dksX2_isFull_0 : cX2_isFull.data.toList.drop 0 = dktX2_isFull_0 := by decide +kernel
theorem dksX2_isFull_1 : cX2_isFull.data.toList.drop 22 = dktX2_isFull_1 := dk_seg dksX2_isFull_0 22 rfl rfl
theorem dksX2_isFull_2 : cX2_isFull.data.toList.drop 46 = dktX2_isFull_2 := dk_seg dksX2_isFull_1 24 rfl rfl
theorem dX2_isFull_0 : decode cX2_isFull 0 = .ok (.iload_n 1, 1) := dk_27 (dk_at dksX2_isFull_0 0 rfl rfl)
theorem dX2_isFull_1 : decode cX2_isFull 1 = .ok (.iconst 1, 1) := dk_4 (dk_at dksX2_isFull_0 1 rfl rfl)
theorem dX2_isFull_2 : decode cX2_isFull 2 = .ok (.if_icmp .ne 18, 3) := dk_160 0 18 (dk_at dksX2_isFull_0 2 rfl rfl)
theorem dX2_isFull_5 : decode cX2_isFull 5 = .ok (.aload_n 0, 1) := dk_42 (dk_at dksX2_isFull_0 5 rfl rfl)
theorem dX2_isFull_6 : decode cX2_isFull 6 = .ok (.getfield 111, 3) := dk_180 0 111 (dk_at dksX2_isFull_0 6 rfl rfl)
theorem dX2_isFull_9 : decode cX2_isFull 9 = .ok (.getfield 118, 3) := dk_180 0 118 (dk_at dksX2_isFull_0 9 rfl rfl)
theorem dX2_isFull_12 : decode cX2_isFull 12 = .ok (.invokevirtual 122, 3) := dk_182 0 122 (dk_at dksX2_isFull_0 12 rfl rfl)
theorem dX2_isFull_15 : decode cX2_isFull 15 = .ok (.bipush 6, 2) := dk_16 6 (dk_at dksX2_isFull_0 15 rfl rfl)
theorem dX2_isFull_17 : decode cX2_isFull 17 = .ok (.if_icmp .eq 43, 3) := dk_159 0 43 (dk_at dksX2_isFull_0 17 rfl rfl)
theorem dX2_isFull_20 : decode cX2_isFull 20 = .ok (.iload_n 1, 1) := dk_27 (dk_at dksX2_isFull_0 20 rfl rfl)
theorem dX2_isFull_21 : decode cX2_isFull 21 = .ok (.iconst 2, 1) := dk_5 (dk_at dksX2_isFull_0 21 rfl rfl)
theorem dX2_isFull_22 : decode cX2_isFull 22 = .ok (.if_icmp .ne 18, 3) := dk_160 0 18 (dk_at dksX2_isFull_1 0 rfl rfl)
theorem dX2_isFull_25 : decode cX2_isFull 25 = .ok (.aload_n 0, 1) := dk_42 (dk_at dksX2_isFull_1 3 rfl rfl)
theorem dX2_isFull_26 : decode cX2_isFull 26 = .ok (.getfield 111, 3) := dk_180 0 111 (dk_at dksX2_isFull_1 4 rfl rfl)
theorem dX2_isFull_29 : decode cX2_isFull 29 = .ok (.getfield 126, 3) := dk_180 0 126 (dk_at dksX2_isFull_1 7 rfl rfl)
theorem dX2_isFull_32 : decode cX2_isFull 32 = .ok (.invokevirtual 122, 3) := dk_182 0 122 (dk_at dksX2_isFull_1 10 rfl rfl)
theorem dX2_isFull_35 : decode cX2_isFull 35 = .ok (.bipush 6, 2) := dk_16 6 (dk_at dksX2_isFull_1 13 rfl rfl)
theorem dX2_isFull_37 : decode cX2_isFull 37 = .ok (.if_icmp .eq 23, 3) := dk_159 0 23 (dk_at dksX2_isFull_1 15 rfl rfl)
theorem dX2_isFull_40 : decode cX2_isFull 40 = .ok (.iload_n 1, 1) := dk_27 (dk_at dksX2_isFull_1 18 rfl rfl)
theorem dX2_isFull_41 : decode cX2_isFull 41 = .ok (.iconst 3, 1) := dk_6 (dk_at dksX2_isFull_1 19 rfl rfl)
theorem dX2_isFull_42 : decode cX2_isFull 42 = .ok (.if_icmp .ne 22, 3) := dk_160 0 22 (dk_at dksX2_isFull_1 20 rfl rfl)
theorem dX2_isFull_45 : decode cX2_isFull 45 = .ok (.aload_n 0, 1) := dk_42 (dk_at dksX2_isFull_1 23 rfl rfl)
theorem dX2_isFull_46 : decode cX2_isFull 46 = .ok (.getfield 111, 3) := dk_180 0 111 (dk_at dksX2_isFull_2 0 rfl rfl)
theorem dX2_isFull_49 : decode cX2_isFull 49 = .ok (.getfield 129, 3) := dk_180 0 129 (dk_at dksX2_isFull_2 3 rfl rfl)
theorem dX2_isFull_52 : decode cX2_isFull 52 = .ok (.invokevirtual 122, 3) := dk_182 0 122 (dk_at dksX2_isFull_2 6 rfl rfl)
theorem dX2_isFull_55 : decode cX2_isFull 55 = .ok (.bipush 12, 2) := dk_16 12 (dk_at dksX2_isFull_2 9 rfl rfl)
theorem dX2_isFull_57 : decode cX2_isFull 57 = .ok (.if_icmp .ne 7, 3) := dk_160 0 7 (dk_at dksX2_isFull_2 11 rfl rfl)
theorem dX2_isFull_60 : decode cX2_isFull 60 = .ok (.iconst 1, 1) := dk_4 (dk_at dksX2_isFull_2 14 rfl rfl)
theorem dX2_isFull_61 : decode cX2_isFull 61 = .ok (.goto 4, 3) := dk_167 0 4 (dk_at dksX2_isFull_2 15 rfl rfl)
theorem dX2_isFull_64 : decode cX2_isFull 64 = .ok (.iconst 0, 1) := dk_3 (dk_at dksX2_isFull_2 18 rfl rfl)
theorem dX2_isFull_65 : decode cX2_isFull 65 = .ok (.ireturn, 1) := dk_172 (dk_at dksX2_isFull_2 19 rfl rfl)
abbrev cX2_number : ByteArray := prog_14_method_11_code
def yX2_number : MethodName := ⟨RX2, "number", "(II)I"⟩
def dkwX2_number_0 : List UInt8 := [42, 27, 28, 182, 0, 89, 62, 42, 182, 0, 93, 29, 172]
abbrev dktX2_number_0 : List UInt8 := dkwX2_number_0 ++ []
theorem dksX2_number_0 : cX2_number.data.toList.drop 0 = dktX2_number_0 := by decide +kernel
theorem dX2_number_0 : decode cX2_number 0 = .ok (.aload_n 0, 1) := dk_42 (dk_at dksX2_number_0 0 rfl rfl)
theorem dX2_number_1 : decode cX2_number 1 = .ok (.iload_n 1, 1) := dk_27 (dk_at dksX2_number_0 1 rfl rfl)
theorem dX2_number_2 : decode cX2_number 2 = .ok (.iload_n 2, 1) := dk_28 (dk_at dksX2_number_0 2 rfl rfl)
theorem dX2_number_3 : decode cX2_number 3 = .ok (.invokevirtual 89, 3) := dk_182 0 89 (dk_at dksX2_number_0 3 rfl rfl)
theorem dX2_number_6 : decode cX2_number 6 = .ok (.istore_n 3, 1) := dk_62 (dk_at dksX2_number_0 6 rfl rfl)
theorem dX2_number_7 : decode cX2_number 7 = .ok (.aload_n 0, 1) := dk_42 (dk_at dksX2_number_0 7 rfl rfl)
theorem dX2_number_8 : decode cX2_number 8 = .ok (.invokevirtual 93, 3) := dk_182 0 93 (dk_at dksX2_number_0 8 rfl rfl)
theorem dX2_number_11 : decode cX2_number 11 = .ok (.iload_n 3, 1) := dk_29 (dk_at dksX2_number_0 11 rfl rfl)
theorem dX2_number_12 : decode cX2_number 12 = .ok (.ireturn, 1) := dk_172 (dk_at dksX2_number_0 12 rfl rfl)
abbrev cX2_numberAtHand : ByteArray := prog_14_method_10_code
def yX2_numberAtHand : MethodName := ⟨RX2, "numberAtHand", "(II)I"⟩
def dkwX2_numberAtHand_1 : List UInt8 := [184, 0, 40, 154, 0, 9, 42, 5, 182, 0, 85, 191, 42, 180, 0, 47, 172]
abbrev dktX2_numberAtHand_1 : List UInt8 := dkwX2_numberAtHand_1 ++ []
def dkwX2_numberAtHand_0 : List UInt8 := [42, 180, 0, 33, 5, 159, 0, 9, 42, 4, 182, 0, 85, 191, 42, 180, 0, 47, 133, 27, 133, 28, 133]
abbrev dktX2_numberAtHand_0 : List UInt8 := dkwX2_numberAtHand_0 ++ dktX2_numberAtHand_1
theorem dksX2_numberAtHand_0 : cX2_numberAtHand.data.toList.drop 0 = dktX2_numberAtHand_0 := by decide +kernel
theorem dksX2_numberAtHand_1 : cX2_numberAtHand.data.toList.drop 23 = dktX2_numberAtHand_1 := dk_seg dksX2_numberAtHand_0 23 rfl rfl
theorem dX2_numberAtHand_0 : decode cX2_numberAtHand 0 = .ok (.aload_n 0, 1) := dk_42 (dk_at dksX2_numberAtHand_0 0 rfl rfl)
theorem dX2_numberAtHand_1 : decode cX2_numberAtHand 1 = .ok (.getfield 33, 3) := dk_180 0 33 (dk_at dksX2_numberAtHand_0 1 rfl rfl)
theorem dX2_numberAtHand_4 : decode cX2_numberAtHand 4 = .ok (.iconst 2, 1) := dk_5 (dk_at dksX2_numberAtHand_0 4 rfl rfl)
theorem dX2_numberAtHand_5 : decode cX2_numberAtHand 5 = .ok (.if_icmp .eq 9, 3) := dk_159 0 9 (dk_at dksX2_numberAtHand_0 5 rfl rfl)
theorem dX2_numberAtHand_8 : decode cX2_numberAtHand 8 = .ok (.aload_n 0, 1) := dk_42 (dk_at dksX2_numberAtHand_0 8 rfl rfl)
theorem dX2_numberAtHand_9 : decode cX2_numberAtHand 9 = .ok (.iconst 1, 1) := dk_4 (dk_at dksX2_numberAtHand_0 9 rfl rfl)
theorem dX2_numberAtHand_10 : decode cX2_numberAtHand 10 = .ok (.invokevirtual 85, 3) := dk_182 0 85 (dk_at dksX2_numberAtHand_0 10 rfl rfl)
theorem dX2_numberAtHand_13 : decode cX2_numberAtHand 13 = .ok (.athrow, 1) := dk_191 (dk_at dksX2_numberAtHand_0 13 rfl rfl)
theorem dX2_numberAtHand_14 : decode cX2_numberAtHand 14 = .ok (.aload_n 0, 1) := dk_42 (dk_at dksX2_numberAtHand_0 14 rfl rfl)
theorem dX2_numberAtHand_15 : decode cX2_numberAtHand 15 = .ok (.getfield 47, 3) := dk_180 0 47 (dk_at dksX2_numberAtHand_0 15 rfl rfl)
theorem dX2_numberAtHand_18 : decode cX2_numberAtHand 18 = .ok (.i2l, 1) := dk_133 (dk_at dksX2_numberAtHand_0 18 rfl rfl)
theorem dX2_numberAtHand_19 : decode cX2_numberAtHand 19 = .ok (.iload_n 1, 1) := dk_27 (dk_at dksX2_numberAtHand_0 19 rfl rfl)
theorem dX2_numberAtHand_20 : decode cX2_numberAtHand 20 = .ok (.i2l, 1) := dk_133 (dk_at dksX2_numberAtHand_0 20 rfl rfl)
theorem dX2_numberAtHand_21 : decode cX2_numberAtHand 21 = .ok (.iload_n 2, 1) := dk_28 (dk_at dksX2_numberAtHand_0 21 rfl rfl)
theorem dX2_numberAtHand_22 : decode cX2_numberAtHand 22 = .ok (.i2l, 1) := dk_133 (dk_at dksX2_numberAtHand_0 22 rfl rfl)
theorem dX2_numberAtHand_23 : decode cX2_numberAtHand 23 = .ok (.invokestatic 40, 3) := dk_184 0 40 (dk_at dksX2_numberAtHand_1 0 rfl rfl)
theorem dX2_numberAtHand_26 : decode cX2_numberAtHand 26 = .ok (.ifCond .ne 9, 3) := dk_154 0 9 (dk_at dksX2_numberAtHand_1 3 rfl rfl)
theorem dX2_numberAtHand_29 : decode cX2_numberAtHand 29 = .ok (.aload_n 0, 1) := dk_42 (dk_at dksX2_numberAtHand_1 6 rfl rfl)
theorem dX2_numberAtHand_30 : decode cX2_numberAtHand 30 = .ok (.iconst 2, 1) := dk_5 (dk_at dksX2_numberAtHand_1 7 rfl rfl)
theorem dX2_numberAtHand_31 : decode cX2_numberAtHand 31 = .ok (.invokevirtual 85, 3) := dk_182 0 85 (dk_at dksX2_numberAtHand_1 8 rfl rfl)
theorem dX2_numberAtHand_34 : decode cX2_numberAtHand 34 = .ok (.athrow, 1) := dk_191 (dk_at dksX2_numberAtHand_1 11 rfl rfl)
theorem dX2_numberAtHand_35 : decode cX2_numberAtHand 35 = .ok (.aload_n 0, 1) := dk_42 (dk_at dksX2_numberAtHand_1 12 rfl rfl)
theorem dX2_numberAtHand_36 : decode cX2_numberAtHand 36 = .ok (.getfield 47, 3) := dk_180 0 47 (dk_at dksX2_numberAtHand_1 13 rfl rfl)
theorem dX2_numberAtHand_39 : decode cX2_numberAtHand 39 = .ok (.ireturn, 1) := dk_172 (dk_at dksX2_numberAtHand_1 16 rfl rfl)
abbrev cX2_trough : ByteArray := prog_14_method_17_code
def yX2_trough : MethodName := ⟨RX2, "trough", "()V"⟩
def dkwX2_trough_4 : List UInt8 := [180, 0, 118, 43, 182, 0, 163, 87, 177]
abbrev dktX2_trough_4 : List UInt8 := dkwX2_trough_4 ++ []
def dkwX2_trough_3 : List UInt8 := [16, 99, 182, 0, 143, 181, 0, 197, 43, 42, 3, 16, 9, 182, 0, 143, 181, 0, 200, 42, 180, 0, 111]
abbrev dktX2_trough_3 : List UInt8 := dkwX2_trough_3 ++ dktX2_trough_4
def dkwX2_trough_2 : List UInt8 := [182, 0, 85, 191, 43, 42, 3, 42, 180, 0, 111, 180, 0, 146, 182, 0, 143, 181, 0, 196, 43, 42, 3]
abbrev dktX2_trough_2 : List UInt8 := dkwX2_trough_2 ++ dktX2_trough_3
def dkwX2_trough_1 : List UInt8 := [160, 0, 27, 42, 180, 0, 111, 180, 0, 118, 42, 180, 0, 47, 184, 0, 192, 2, 159, 0, 9, 42, 6]
abbrev dktX2_trough_1 : List UInt8 := dkwX2_trough_1 ++ dktX2_trough_2
def dkwX2_trough_0 : List UInt8 := [187, 0, 184, 89, 42, 42, 180, 0, 111, 180, 0, 118, 182, 0, 186, 183, 0, 189, 76, 42, 180, 0, 33, 5]
abbrev dktX2_trough_0 : List UInt8 := dkwX2_trough_0 ++ dktX2_trough_1
theorem dksX2_trough_0 : cX2_trough.data.toList.drop 0 = dktX2_trough_0 := by decide +kernel
theorem dksX2_trough_1 : cX2_trough.data.toList.drop 24 = dktX2_trough_1 := dk_seg dksX2_trough_0 24 rfl rfl
theorem dksX2_trough_2 : cX2_trough.data.toList.drop 47 = dktX2_trough_2 := dk_seg dksX2_trough_1 23 rfl rfl
theorem dksX2_trough_3 : cX2_trough.data.toList.drop 70 = dktX2_trough_3 := dk_seg dksX2_trough_2 23 rfl rfl
theorem dksX2_trough_4 : cX2_trough.data.toList.drop 93 = dktX2_trough_4 := dk_seg dksX2_trough_3 23 rfl rfl
theorem dX2_trough_0 : decode cX2_trough 0 = .ok (.new 184, 3) := dk_187 0 184 (dk_at dksX2_trough_0 0 rfl rfl)
theorem dX2_trough_3 : decode cX2_trough 3 = .ok (.dup, 1) := dk_89 (dk_at dksX2_trough_0 3 rfl rfl)
theorem dX2_trough_4 : decode cX2_trough 4 = .ok (.aload_n 0, 1) := dk_42 (dk_at dksX2_trough_0 4 rfl rfl)
theorem dX2_trough_5 : decode cX2_trough 5 = .ok (.aload_n 0, 1) := dk_42 (dk_at dksX2_trough_0 5 rfl rfl)
theorem dX2_trough_6 : decode cX2_trough 6 = .ok (.getfield 111, 3) := dk_180 0 111 (dk_at dksX2_trough_0 6 rfl rfl)
theorem dX2_trough_9 : decode cX2_trough 9 = .ok (.getfield 118, 3) := dk_180 0 118 (dk_at dksX2_trough_0 9 rfl rfl)
theorem dX2_trough_12 : decode cX2_trough 12 = .ok (.invokevirtual 186, 3) := dk_182 0 186 (dk_at dksX2_trough_0 12 rfl rfl)
theorem dX2_trough_15 : decode cX2_trough 15 = .ok (.invokespecial 189, 3) := dk_183 0 189 (dk_at dksX2_trough_0 15 rfl rfl)
theorem dX2_trough_18 : decode cX2_trough 18 = .ok (.astore_n 1, 1) := dk_76 (dk_at dksX2_trough_0 18 rfl rfl)
theorem dX2_trough_19 : decode cX2_trough 19 = .ok (.aload_n 0, 1) := dk_42 (dk_at dksX2_trough_0 19 rfl rfl)
theorem dX2_trough_20 : decode cX2_trough 20 = .ok (.getfield 33, 3) := dk_180 0 33 (dk_at dksX2_trough_0 20 rfl rfl)
theorem dX2_trough_23 : decode cX2_trough 23 = .ok (.iconst 2, 1) := dk_5 (dk_at dksX2_trough_0 23 rfl rfl)
theorem dX2_trough_24 : decode cX2_trough 24 = .ok (.if_icmp .ne 27, 3) := dk_160 0 27 (dk_at dksX2_trough_1 0 rfl rfl)
theorem dX2_trough_27 : decode cX2_trough 27 = .ok (.aload_n 0, 1) := dk_42 (dk_at dksX2_trough_1 3 rfl rfl)
theorem dX2_trough_28 : decode cX2_trough 28 = .ok (.getfield 111, 3) := dk_180 0 111 (dk_at dksX2_trough_1 4 rfl rfl)
theorem dX2_trough_31 : decode cX2_trough 31 = .ok (.getfield 118, 3) := dk_180 0 118 (dk_at dksX2_trough_1 7 rfl rfl)
theorem dX2_trough_34 : decode cX2_trough 34 = .ok (.aload_n 0, 1) := dk_42 (dk_at dksX2_trough_1 10 rfl rfl)
theorem dX2_trough_35 : decode cX2_trough 35 = .ok (.getfield 47, 3) := dk_180 0 47 (dk_at dksX2_trough_1 11 rfl rfl)
theorem dX2_trough_38 : decode cX2_trough 38 = .ok (.invokestatic 192, 3) := dk_184 0 192 (dk_at dksX2_trough_1 14 rfl rfl)
theorem dX2_trough_41 : decode cX2_trough 41 = .ok (.iconst (-1), 1) := dk_2 (dk_at dksX2_trough_1 17 rfl rfl)
theorem dX2_trough_42 : decode cX2_trough 42 = .ok (.if_icmp .eq 9, 3) := dk_159 0 9 (dk_at dksX2_trough_1 18 rfl rfl)
theorem dX2_trough_45 : decode cX2_trough 45 = .ok (.aload_n 0, 1) := dk_42 (dk_at dksX2_trough_1 21 rfl rfl)
theorem dX2_trough_46 : decode cX2_trough 46 = .ok (.iconst 3, 1) := dk_6 (dk_at dksX2_trough_1 22 rfl rfl)
theorem dX2_trough_47 : decode cX2_trough 47 = .ok (.invokevirtual 85, 3) := dk_182 0 85 (dk_at dksX2_trough_2 0 rfl rfl)
theorem dX2_trough_50 : decode cX2_trough 50 = .ok (.athrow, 1) := dk_191 (dk_at dksX2_trough_2 3 rfl rfl)
theorem dX2_trough_51 : decode cX2_trough 51 = .ok (.aload_n 1, 1) := dk_43 (dk_at dksX2_trough_2 4 rfl rfl)
theorem dX2_trough_52 : decode cX2_trough 52 = .ok (.aload_n 0, 1) := dk_42 (dk_at dksX2_trough_2 5 rfl rfl)
theorem dX2_trough_53 : decode cX2_trough 53 = .ok (.iconst 0, 1) := dk_3 (dk_at dksX2_trough_2 6 rfl rfl)
theorem dX2_trough_54 : decode cX2_trough 54 = .ok (.aload_n 0, 1) := dk_42 (dk_at dksX2_trough_2 7 rfl rfl)
theorem dX2_trough_55 : decode cX2_trough 55 = .ok (.getfield 111, 3) := dk_180 0 111 (dk_at dksX2_trough_2 8 rfl rfl)
theorem dX2_trough_58 : decode cX2_trough 58 = .ok (.getfield 146, 3) := dk_180 0 146 (dk_at dksX2_trough_2 11 rfl rfl)
theorem dX2_trough_61 : decode cX2_trough 61 = .ok (.invokevirtual 143, 3) := dk_182 0 143 (dk_at dksX2_trough_2 14 rfl rfl)
theorem dX2_trough_64 : decode cX2_trough 64 = .ok (.putfield 196, 3) := dk_181 0 196 (dk_at dksX2_trough_2 17 rfl rfl)
theorem dX2_trough_67 : decode cX2_trough 67 = .ok (.aload_n 1, 1) := dk_43 (dk_at dksX2_trough_2 20 rfl rfl)
theorem dX2_trough_68 : decode cX2_trough 68 = .ok (.aload_n 0, 1) := dk_42 (dk_at dksX2_trough_2 21 rfl rfl)
theorem dX2_trough_69 : decode cX2_trough 69 = .ok (.iconst 0, 1) := dk_3 (dk_at dksX2_trough_2 22 rfl rfl)
theorem dX2_trough_70 : decode cX2_trough 70 = .ok (.bipush 99, 2) := dk_16 99 (dk_at dksX2_trough_3 0 rfl rfl)
theorem dX2_trough_72 : decode cX2_trough 72 = .ok (.invokevirtual 143, 3) := dk_182 0 143 (dk_at dksX2_trough_3 2 rfl rfl)
theorem dX2_trough_75 : decode cX2_trough 75 = .ok (.putfield 197, 3) := dk_181 0 197 (dk_at dksX2_trough_3 5 rfl rfl)
theorem dX2_trough_78 : decode cX2_trough 78 = .ok (.aload_n 1, 1) := dk_43 (dk_at dksX2_trough_3 8 rfl rfl)
theorem dX2_trough_79 : decode cX2_trough 79 = .ok (.aload_n 0, 1) := dk_42 (dk_at dksX2_trough_3 9 rfl rfl)
theorem dX2_trough_80 : decode cX2_trough 80 = .ok (.iconst 0, 1) := dk_3 (dk_at dksX2_trough_3 10 rfl rfl)
theorem dX2_trough_81 : decode cX2_trough 81 = .ok (.bipush 9, 2) := dk_16 9 (dk_at dksX2_trough_3 11 rfl rfl)
theorem dX2_trough_83 : decode cX2_trough 83 = .ok (.invokevirtual 143, 3) := dk_182 0 143 (dk_at dksX2_trough_3 13 rfl rfl)
theorem dX2_trough_86 : decode cX2_trough 86 = .ok (.putfield 200, 3) := dk_181 0 200 (dk_at dksX2_trough_3 16 rfl rfl)
theorem dX2_trough_89 : decode cX2_trough 89 = .ok (.aload_n 0, 1) := dk_42 (dk_at dksX2_trough_3 19 rfl rfl)
theorem dX2_trough_90 : decode cX2_trough 90 = .ok (.getfield 111, 3) := dk_180 0 111 (dk_at dksX2_trough_3 20 rfl rfl)
theorem dX2_trough_93 : decode cX2_trough 93 = .ok (.getfield 118, 3) := dk_180 0 118 (dk_at dksX2_trough_4 0 rfl rfl)
theorem dX2_trough_96 : decode cX2_trough 96 = .ok (.aload_n 1, 1) := dk_43 (dk_at dksX2_trough_4 3 rfl rfl)
theorem dX2_trough_97 : decode cX2_trough 97 = .ok (.invokevirtual 163, 3) := dk_182 0 163 (dk_at dksX2_trough_4 4 rfl rfl)
theorem dX2_trough_100 : decode cX2_trough 100 = .ok (.pop, 1) := dk_87 (dk_at dksX2_trough_4 7 rfl rfl)
theorem dX2_trough_101 : decode cX2_trough 101 = .ok (.return_, 1) := dk_177 (dk_at dksX2_trough_4 8 rfl rfl)
abbrev cX2_fresh : ByteArray := prog_14_method_12_code
def yX2_fresh : MethodName := ⟨RX2, "fresh", "(Ljava/util/ArrayList;)I"⟩
def dkwX2_fresh_1 : List UInt8 := [159, 0, 9, 42, 6, 182, 0, 85, 191, 42, 180, 0, 47, 61, 42, 182, 0, 93, 28, 172]
abbrev dktX2_fresh_1 : List UInt8 := dkwX2_fresh_1 ++ []
def dkwX2_fresh_0 : List UInt8 := [42, 180, 0, 33, 4, 159, 0, 9, 42, 4, 182, 0, 85, 191, 43, 42, 180, 0, 47, 184, 0, 96, 2]
abbrev dktX2_fresh_0 : List UInt8 := dkwX2_fresh_0 ++ dktX2_fresh_1
theorem dksX2_fresh_0 : cX2_fresh.data.toList.drop 0 = dktX2_fresh_0 := by decide +kernel
theorem dksX2_fresh_1 : cX2_fresh.data.toList.drop 23 = dktX2_fresh_1 := dk_seg dksX2_fresh_0 23 rfl rfl
theorem dX2_fresh_0 : decode cX2_fresh 0 = .ok (.aload_n 0, 1) := dk_42 (dk_at dksX2_fresh_0 0 rfl rfl)
theorem dX2_fresh_1 : decode cX2_fresh 1 = .ok (.getfield 33, 3) := dk_180 0 33 (dk_at dksX2_fresh_0 1 rfl rfl)
theorem dX2_fresh_4 : decode cX2_fresh 4 = .ok (.iconst 1, 1) := dk_4 (dk_at dksX2_fresh_0 4 rfl rfl)
theorem dX2_fresh_5 : decode cX2_fresh 5 = .ok (.if_icmp .eq 9, 3) := dk_159 0 9 (dk_at dksX2_fresh_0 5 rfl rfl)
theorem dX2_fresh_8 : decode cX2_fresh 8 = .ok (.aload_n 0, 1) := dk_42 (dk_at dksX2_fresh_0 8 rfl rfl)
theorem dX2_fresh_9 : decode cX2_fresh 9 = .ok (.iconst 1, 1) := dk_4 (dk_at dksX2_fresh_0 9 rfl rfl)
theorem dX2_fresh_10 : decode cX2_fresh 10 = .ok (.invokevirtual 85, 3) := dk_182 0 85 (dk_at dksX2_fresh_0 10 rfl rfl)
theorem dX2_fresh_13 : decode cX2_fresh 13 = .ok (.athrow, 1) := dk_191 (dk_at dksX2_fresh_0 13 rfl rfl)
theorem dX2_fresh_14 : decode cX2_fresh 14 = .ok (.aload_n 1, 1) := dk_43 (dk_at dksX2_fresh_0 14 rfl rfl)
theorem dX2_fresh_15 : decode cX2_fresh 15 = .ok (.aload_n 0, 1) := dk_42 (dk_at dksX2_fresh_0 15 rfl rfl)
theorem dX2_fresh_16 : decode cX2_fresh 16 = .ok (.getfield 47, 3) := dk_180 0 47 (dk_at dksX2_fresh_0 16 rfl rfl)
theorem dX2_fresh_19 : decode cX2_fresh 19 = .ok (.invokestatic 96, 3) := dk_184 0 96 (dk_at dksX2_fresh_0 19 rfl rfl)
theorem dX2_fresh_22 : decode cX2_fresh 22 = .ok (.iconst (-1), 1) := dk_2 (dk_at dksX2_fresh_0 22 rfl rfl)
theorem dX2_fresh_23 : decode cX2_fresh 23 = .ok (.if_icmp .eq 9, 3) := dk_159 0 9 (dk_at dksX2_fresh_1 0 rfl rfl)
theorem dX2_fresh_26 : decode cX2_fresh 26 = .ok (.aload_n 0, 1) := dk_42 (dk_at dksX2_fresh_1 3 rfl rfl)
theorem dX2_fresh_27 : decode cX2_fresh 27 = .ok (.iconst 3, 1) := dk_6 (dk_at dksX2_fresh_1 4 rfl rfl)
theorem dX2_fresh_28 : decode cX2_fresh 28 = .ok (.invokevirtual 85, 3) := dk_182 0 85 (dk_at dksX2_fresh_1 5 rfl rfl)
theorem dX2_fresh_31 : decode cX2_fresh 31 = .ok (.athrow, 1) := dk_191 (dk_at dksX2_fresh_1 8 rfl rfl)
theorem dX2_fresh_32 : decode cX2_fresh 32 = .ok (.aload_n 0, 1) := dk_42 (dk_at dksX2_fresh_1 9 rfl rfl)
theorem dX2_fresh_33 : decode cX2_fresh 33 = .ok (.getfield 47, 3) := dk_180 0 47 (dk_at dksX2_fresh_1 10 rfl rfl)
theorem dX2_fresh_36 : decode cX2_fresh 36 = .ok (.istore_n 2, 1) := dk_61 (dk_at dksX2_fresh_1 13 rfl rfl)
theorem dX2_fresh_37 : decode cX2_fresh 37 = .ok (.aload_n 0, 1) := dk_42 (dk_at dksX2_fresh_1 14 rfl rfl)
theorem dX2_fresh_38 : decode cX2_fresh 38 = .ok (.invokevirtual 93, 3) := dk_182 0 93 (dk_at dksX2_fresh_1 15 rfl rfl)
theorem dX2_fresh_41 : decode cX2_fresh 41 = .ok (.iload_n 2, 1) := dk_28 (dk_at dksX2_fresh_1 18 rfl rfl)
theorem dX2_fresh_42 : decode cX2_fresh 42 = .ok (.ireturn, 1) := dk_172 (dk_at dksX2_fresh_1 19 rfl rfl)
abbrev cX2_horse : ByteArray := prog_14_method_18_code
def yX2_horse : MethodName := ⟨RX2, "horse", "()V"⟩
def dkwX2_horse_3 : List UInt8 := [180, 0, 126, 43, 182, 0, 163, 87, 177]
abbrev dktX2_horse_3 : List UInt8 := dkwX2_horse_3 ++ []
def dkwX2_horse_2 : List UInt8 := [3, 16, 99, 182, 0, 143, 181, 0, 210, 43, 42, 4, 16, 9, 182, 0, 143, 181, 0, 213, 42, 180, 0, 111]
abbrev dktX2_horse_2 : List UInt8 := dkwX2_horse_2 ++ dktX2_horse_3
def dkwX2_horse_1 : List UInt8 := [182, 0, 143, 181, 0, 206, 43, 42, 3, 42, 180, 0, 111, 180, 0, 146, 182, 0, 143, 181, 0, 209, 43, 42]
abbrev dktX2_horse_1 : List UInt8 := dkwX2_horse_1 ++ dktX2_horse_2
def dkwX2_horse_0 : List UInt8 := [187, 0, 203, 89, 42, 42, 180, 0, 111, 180, 0, 126, 182, 0, 186, 183, 0, 205, 76, 43, 42, 3, 6]
abbrev dktX2_horse_0 : List UInt8 := dkwX2_horse_0 ++ dktX2_horse_1
theorem dksX2_horse_0 : cX2_horse.data.toList.drop 0 = dktX2_horse_0 := by decide +kernel
theorem dksX2_horse_1 : cX2_horse.data.toList.drop 23 = dktX2_horse_1 := dk_seg dksX2_horse_0 23 rfl rfl
theorem dksX2_horse_2 : cX2_horse.data.toList.drop 47 = dktX2_horse_2 := dk_seg dksX2_horse_1 24 rfl rfl
theorem dksX2_horse_3 : cX2_horse.data.toList.drop 71 = dktX2_horse_3 := dk_seg dksX2_horse_2 24 rfl rfl
theorem dX2_horse_0 : decode cX2_horse 0 = .ok (.new 203, 3) := dk_187 0 203 (dk_at dksX2_horse_0 0 rfl rfl)
theorem dX2_horse_3 : decode cX2_horse 3 = .ok (.dup, 1) := dk_89 (dk_at dksX2_horse_0 3 rfl rfl)
theorem dX2_horse_4 : decode cX2_horse 4 = .ok (.aload_n 0, 1) := dk_42 (dk_at dksX2_horse_0 4 rfl rfl)
theorem dX2_horse_5 : decode cX2_horse 5 = .ok (.aload_n 0, 1) := dk_42 (dk_at dksX2_horse_0 5 rfl rfl)
theorem dX2_horse_6 : decode cX2_horse 6 = .ok (.getfield 111, 3) := dk_180 0 111 (dk_at dksX2_horse_0 6 rfl rfl)
theorem dX2_horse_9 : decode cX2_horse 9 = .ok (.getfield 126, 3) := dk_180 0 126 (dk_at dksX2_horse_0 9 rfl rfl)
theorem dX2_horse_12 : decode cX2_horse 12 = .ok (.invokevirtual 186, 3) := dk_182 0 186 (dk_at dksX2_horse_0 12 rfl rfl)
theorem dX2_horse_15 : decode cX2_horse 15 = .ok (.invokespecial 205, 3) := dk_183 0 205 (dk_at dksX2_horse_0 15 rfl rfl)
theorem dX2_horse_18 : decode cX2_horse 18 = .ok (.astore_n 1, 1) := dk_76 (dk_at dksX2_horse_0 18 rfl rfl)
theorem dX2_horse_19 : decode cX2_horse 19 = .ok (.aload_n 1, 1) := dk_43 (dk_at dksX2_horse_0 19 rfl rfl)
theorem dX2_horse_20 : decode cX2_horse 20 = .ok (.aload_n 0, 1) := dk_42 (dk_at dksX2_horse_0 20 rfl rfl)
theorem dX2_horse_21 : decode cX2_horse 21 = .ok (.iconst 0, 1) := dk_3 (dk_at dksX2_horse_0 21 rfl rfl)
theorem dX2_horse_22 : decode cX2_horse 22 = .ok (.iconst 3, 1) := dk_6 (dk_at dksX2_horse_0 22 rfl rfl)
theorem dX2_horse_23 : decode cX2_horse 23 = .ok (.invokevirtual 143, 3) := dk_182 0 143 (dk_at dksX2_horse_1 0 rfl rfl)
theorem dX2_horse_26 : decode cX2_horse 26 = .ok (.putfield 206, 3) := dk_181 0 206 (dk_at dksX2_horse_1 3 rfl rfl)
theorem dX2_horse_29 : decode cX2_horse 29 = .ok (.aload_n 1, 1) := dk_43 (dk_at dksX2_horse_1 6 rfl rfl)
theorem dX2_horse_30 : decode cX2_horse 30 = .ok (.aload_n 0, 1) := dk_42 (dk_at dksX2_horse_1 7 rfl rfl)
theorem dX2_horse_31 : decode cX2_horse 31 = .ok (.iconst 0, 1) := dk_3 (dk_at dksX2_horse_1 8 rfl rfl)
theorem dX2_horse_32 : decode cX2_horse 32 = .ok (.aload_n 0, 1) := dk_42 (dk_at dksX2_horse_1 9 rfl rfl)
theorem dX2_horse_33 : decode cX2_horse 33 = .ok (.getfield 111, 3) := dk_180 0 111 (dk_at dksX2_horse_1 10 rfl rfl)
theorem dX2_horse_36 : decode cX2_horse 36 = .ok (.getfield 146, 3) := dk_180 0 146 (dk_at dksX2_horse_1 13 rfl rfl)
theorem dX2_horse_39 : decode cX2_horse 39 = .ok (.invokevirtual 143, 3) := dk_182 0 143 (dk_at dksX2_horse_1 16 rfl rfl)
theorem dX2_horse_42 : decode cX2_horse 42 = .ok (.putfield 209, 3) := dk_181 0 209 (dk_at dksX2_horse_1 19 rfl rfl)
theorem dX2_horse_45 : decode cX2_horse 45 = .ok (.aload_n 1, 1) := dk_43 (dk_at dksX2_horse_1 22 rfl rfl)
theorem dX2_horse_46 : decode cX2_horse 46 = .ok (.aload_n 0, 1) := dk_42 (dk_at dksX2_horse_1 23 rfl rfl)
theorem dX2_horse_47 : decode cX2_horse 47 = .ok (.iconst 0, 1) := dk_3 (dk_at dksX2_horse_2 0 rfl rfl)
theorem dX2_horse_48 : decode cX2_horse 48 = .ok (.bipush 99, 2) := dk_16 99 (dk_at dksX2_horse_2 1 rfl rfl)
theorem dX2_horse_50 : decode cX2_horse 50 = .ok (.invokevirtual 143, 3) := dk_182 0 143 (dk_at dksX2_horse_2 3 rfl rfl)
theorem dX2_horse_53 : decode cX2_horse 53 = .ok (.putfield 210, 3) := dk_181 0 210 (dk_at dksX2_horse_2 6 rfl rfl)
theorem dX2_horse_56 : decode cX2_horse 56 = .ok (.aload_n 1, 1) := dk_43 (dk_at dksX2_horse_2 9 rfl rfl)
theorem dX2_horse_57 : decode cX2_horse 57 = .ok (.aload_n 0, 1) := dk_42 (dk_at dksX2_horse_2 10 rfl rfl)
theorem dX2_horse_58 : decode cX2_horse 58 = .ok (.iconst 1, 1) := dk_4 (dk_at dksX2_horse_2 11 rfl rfl)
theorem dX2_horse_59 : decode cX2_horse 59 = .ok (.bipush 9, 2) := dk_16 9 (dk_at dksX2_horse_2 12 rfl rfl)
theorem dX2_horse_61 : decode cX2_horse 61 = .ok (.invokevirtual 143, 3) := dk_182 0 143 (dk_at dksX2_horse_2 14 rfl rfl)
theorem dX2_horse_64 : decode cX2_horse 64 = .ok (.putfield 213, 3) := dk_181 0 213 (dk_at dksX2_horse_2 17 rfl rfl)
theorem dX2_horse_67 : decode cX2_horse 67 = .ok (.aload_n 0, 1) := dk_42 (dk_at dksX2_horse_2 20 rfl rfl)
theorem dX2_horse_68 : decode cX2_horse 68 = .ok (.getfield 111, 3) := dk_180 0 111 (dk_at dksX2_horse_2 21 rfl rfl)
theorem dX2_horse_71 : decode cX2_horse 71 = .ok (.getfield 126, 3) := dk_180 0 126 (dk_at dksX2_horse_3 0 rfl rfl)
theorem dX2_horse_74 : decode cX2_horse 74 = .ok (.aload_n 1, 1) := dk_43 (dk_at dksX2_horse_3 3 rfl rfl)
theorem dX2_horse_75 : decode cX2_horse 75 = .ok (.invokevirtual 163, 3) := dk_182 0 163 (dk_at dksX2_horse_3 4 rfl rfl)
theorem dX2_horse_78 : decode cX2_horse 78 = .ok (.pop, 1) := dk_87 (dk_at dksX2_horse_3 7 rfl rfl)
theorem dX2_horse_79 : decode cX2_horse 79 = .ok (.return_, 1) := dk_177 (dk_at dksX2_horse_3 8 rfl rfl)
abbrev cX2_ahead : ByteArray := prog_14_method_16_code
def yX2_ahead : MethodName := ⟨RX2, "ahead", "(Ljava/util/ArrayList;)I"⟩
def dkwX2_ahead_1 : List UInt8 := [2, 160, 0, 9, 42, 7, 182, 0, 85, 191, 42, 182, 0, 93, 28, 172]
abbrev dktX2_ahead_1 : List UInt8 := dkwX2_ahead_1 ++ []
def dkwX2_ahead_0 : List UInt8 := [42, 180, 0, 33, 4, 159, 0, 9, 42, 4, 182, 0, 85, 191, 43, 42, 180, 0, 47, 184, 0, 96, 61, 28]
abbrev dktX2_ahead_0 : List UInt8 := dkwX2_ahead_0 ++ dktX2_ahead_1
theorem dksX2_ahead_0 : cX2_ahead.data.toList.drop 0 = dktX2_ahead_0 := by decide +kernel
theorem dksX2_ahead_1 : cX2_ahead.data.toList.drop 24 = dktX2_ahead_1 := dk_seg dksX2_ahead_0 24 rfl rfl
theorem dX2_ahead_0 : decode cX2_ahead 0 = .ok (.aload_n 0, 1) := dk_42 (dk_at dksX2_ahead_0 0 rfl rfl)
theorem dX2_ahead_1 : decode cX2_ahead 1 = .ok (.getfield 33, 3) := dk_180 0 33 (dk_at dksX2_ahead_0 1 rfl rfl)
theorem dX2_ahead_4 : decode cX2_ahead 4 = .ok (.iconst 1, 1) := dk_4 (dk_at dksX2_ahead_0 4 rfl rfl)
theorem dX2_ahead_5 : decode cX2_ahead 5 = .ok (.if_icmp .eq 9, 3) := dk_159 0 9 (dk_at dksX2_ahead_0 5 rfl rfl)
theorem dX2_ahead_8 : decode cX2_ahead 8 = .ok (.aload_n 0, 1) := dk_42 (dk_at dksX2_ahead_0 8 rfl rfl)
theorem dX2_ahead_9 : decode cX2_ahead 9 = .ok (.iconst 1, 1) := dk_4 (dk_at dksX2_ahead_0 9 rfl rfl)
theorem dX2_ahead_10 : decode cX2_ahead 10 = .ok (.invokevirtual 85, 3) := dk_182 0 85 (dk_at dksX2_ahead_0 10 rfl rfl)
theorem dX2_ahead_13 : decode cX2_ahead 13 = .ok (.athrow, 1) := dk_191 (dk_at dksX2_ahead_0 13 rfl rfl)
theorem dX2_ahead_14 : decode cX2_ahead 14 = .ok (.aload_n 1, 1) := dk_43 (dk_at dksX2_ahead_0 14 rfl rfl)
theorem dX2_ahead_15 : decode cX2_ahead 15 = .ok (.aload_n 0, 1) := dk_42 (dk_at dksX2_ahead_0 15 rfl rfl)
theorem dX2_ahead_16 : decode cX2_ahead 16 = .ok (.getfield 47, 3) := dk_180 0 47 (dk_at dksX2_ahead_0 16 rfl rfl)
theorem dX2_ahead_19 : decode cX2_ahead 19 = .ok (.invokestatic 96, 3) := dk_184 0 96 (dk_at dksX2_ahead_0 19 rfl rfl)
theorem dX2_ahead_22 : decode cX2_ahead 22 = .ok (.istore_n 2, 1) := dk_61 (dk_at dksX2_ahead_0 22 rfl rfl)
theorem dX2_ahead_23 : decode cX2_ahead 23 = .ok (.iload_n 2, 1) := dk_28 (dk_at dksX2_ahead_0 23 rfl rfl)
theorem dX2_ahead_24 : decode cX2_ahead 24 = .ok (.iconst (-1), 1) := dk_2 (dk_at dksX2_ahead_1 0 rfl rfl)
theorem dX2_ahead_25 : decode cX2_ahead 25 = .ok (.if_icmp .ne 9, 3) := dk_160 0 9 (dk_at dksX2_ahead_1 1 rfl rfl)
theorem dX2_ahead_28 : decode cX2_ahead 28 = .ok (.aload_n 0, 1) := dk_42 (dk_at dksX2_ahead_1 4 rfl rfl)
theorem dX2_ahead_29 : decode cX2_ahead 29 = .ok (.iconst 4, 1) := dk_7 (dk_at dksX2_ahead_1 5 rfl rfl)
theorem dX2_ahead_30 : decode cX2_ahead 30 = .ok (.invokevirtual 85, 3) := dk_182 0 85 (dk_at dksX2_ahead_1 6 rfl rfl)
theorem dX2_ahead_33 : decode cX2_ahead 33 = .ok (.athrow, 1) := dk_191 (dk_at dksX2_ahead_1 9 rfl rfl)
theorem dX2_ahead_34 : decode cX2_ahead 34 = .ok (.aload_n 0, 1) := dk_42 (dk_at dksX2_ahead_1 10 rfl rfl)
theorem dX2_ahead_35 : decode cX2_ahead 35 = .ok (.invokevirtual 93, 3) := dk_182 0 93 (dk_at dksX2_ahead_1 11 rfl rfl)
theorem dX2_ahead_38 : decode cX2_ahead 38 = .ok (.iload_n 2, 1) := dk_28 (dk_at dksX2_ahead_1 14 rfl rfl)
theorem dX2_ahead_39 : decode cX2_ahead 39 = .ok (.ireturn, 1) := dk_172 (dk_at dksX2_ahead_1 15 rfl rfl)
abbrev cX2_or : ByteArray := prog_14_method_20_code
def yX2_or : MethodName := ⟨RX2, "or", "()LTroughTreaty$Part;"⟩
def dkwX2_or_1 : List UInt8 := [89, 28, 43, 42, 182, 0, 219, 183, 0, 227, 76, 167, 255, 226, 43, 176]
abbrev dktX2_or_1 : List UInt8 := dkwX2_or_1 ++ []
def dkwX2_or_0 : List UInt8 := [42, 182, 0, 219, 76, 42, 16, 10, 16, 10, 182, 0, 132, 153, 0, 25, 42, 182, 0, 222, 61, 187, 0, 225]
abbrev dktX2_or_0 : List UInt8 := dkwX2_or_0 ++ dktX2_or_1
theorem dksX2_or_0 : cX2_or.data.toList.drop 0 = dktX2_or_0 := by decide +kernel
theorem dksX2_or_1 : cX2_or.data.toList.drop 24 = dktX2_or_1 := dk_seg dksX2_or_0 24 rfl rfl
theorem dX2_or_0 : decode cX2_or 0 = .ok (.aload_n 0, 1) := dk_42 (dk_at dksX2_or_0 0 rfl rfl)
theorem dX2_or_1 : decode cX2_or 1 = .ok (.invokevirtual 219, 3) := dk_182 0 219 (dk_at dksX2_or_0 1 rfl rfl)
theorem dX2_or_4 : decode cX2_or 4 = .ok (.astore_n 1, 1) := dk_76 (dk_at dksX2_or_0 4 rfl rfl)
theorem dX2_or_5 : decode cX2_or 5 = .ok (.aload_n 0, 1) := dk_42 (dk_at dksX2_or_0 5 rfl rfl)
theorem dX2_or_6 : decode cX2_or 6 = .ok (.bipush 10, 2) := dk_16 10 (dk_at dksX2_or_0 6 rfl rfl)
theorem dX2_or_8 : decode cX2_or 8 = .ok (.bipush 10, 2) := dk_16 10 (dk_at dksX2_or_0 8 rfl rfl)
theorem dX2_or_10 : decode cX2_or 10 = .ok (.invokevirtual 132, 3) := dk_182 0 132 (dk_at dksX2_or_0 10 rfl rfl)
theorem dX2_or_13 : decode cX2_or 13 = .ok (.ifCond .eq 25, 3) := dk_153 0 25 (dk_at dksX2_or_0 13 rfl rfl)
theorem dX2_or_16 : decode cX2_or 16 = .ok (.aload_n 0, 1) := dk_42 (dk_at dksX2_or_0 16 rfl rfl)
theorem dX2_or_17 : decode cX2_or 17 = .ok (.invokevirtual 222, 3) := dk_182 0 222 (dk_at dksX2_or_0 17 rfl rfl)
theorem dX2_or_20 : decode cX2_or 20 = .ok (.istore_n 2, 1) := dk_61 (dk_at dksX2_or_0 20 rfl rfl)
theorem dX2_or_21 : decode cX2_or 21 = .ok (.new 225, 3) := dk_187 0 225 (dk_at dksX2_or_0 21 rfl rfl)
theorem dX2_or_24 : decode cX2_or 24 = .ok (.dup, 1) := dk_89 (dk_at dksX2_or_1 0 rfl rfl)
theorem dX2_or_25 : decode cX2_or 25 = .ok (.iload_n 2, 1) := dk_28 (dk_at dksX2_or_1 1 rfl rfl)
theorem dX2_or_26 : decode cX2_or 26 = .ok (.aload_n 1, 1) := dk_43 (dk_at dksX2_or_1 2 rfl rfl)
theorem dX2_or_27 : decode cX2_or 27 = .ok (.aload_n 0, 1) := dk_42 (dk_at dksX2_or_1 3 rfl rfl)
theorem dX2_or_28 : decode cX2_or 28 = .ok (.invokevirtual 219, 3) := dk_182 0 219 (dk_at dksX2_or_1 4 rfl rfl)
theorem dX2_or_31 : decode cX2_or 31 = .ok (.invokespecial 227, 3) := dk_183 0 227 (dk_at dksX2_or_1 7 rfl rfl)
theorem dX2_or_34 : decode cX2_or 34 = .ok (.astore_n 1, 1) := dk_76 (dk_at dksX2_or_1 10 rfl rfl)
theorem dX2_or_35 : decode cX2_or 35 = .ok (.goto (-30), 3) := dk_167 255 226 (dk_at dksX2_or_1 11 rfl rfl)
theorem dX2_or_38 : decode cX2_or 38 = .ok (.aload_n 1, 1) := dk_43 (dk_at dksX2_or_1 14 rfl rfl)
theorem dX2_or_39 : decode cX2_or 39 = .ok (.areturn, 1) := dk_176 (dk_at dksX2_or_1 15 rfl rfl)
abbrev cX2_and : ByteArray := prog_14_method_21_code
def yX2_and : MethodName := ⟨RX2, "and", "()LTroughTreaty$Part;"⟩
def dkwX2_and_1 : List UInt8 := [89, 28, 43, 42, 182, 0, 230, 183, 0, 227, 76, 167, 255, 226, 43, 176]
abbrev dktX2_and_1 : List UInt8 := dkwX2_and_1 ++ []
def dkwX2_and_0 : List UInt8 := [42, 182, 0, 230, 76, 42, 16, 11, 16, 11, 182, 0, 132, 153, 0, 25, 42, 182, 0, 222, 61, 187, 0, 225]
abbrev dktX2_and_0 : List UInt8 := dkwX2_and_0 ++ dktX2_and_1
theorem dksX2_and_0 : cX2_and.data.toList.drop 0 = dktX2_and_0 := by decide +kernel
theorem dksX2_and_1 : cX2_and.data.toList.drop 24 = dktX2_and_1 := dk_seg dksX2_and_0 24 rfl rfl
theorem dX2_and_0 : decode cX2_and 0 = .ok (.aload_n 0, 1) := dk_42 (dk_at dksX2_and_0 0 rfl rfl)
theorem dX2_and_1 : decode cX2_and 1 = .ok (.invokevirtual 230, 3) := dk_182 0 230 (dk_at dksX2_and_0 1 rfl rfl)
theorem dX2_and_4 : decode cX2_and 4 = .ok (.astore_n 1, 1) := dk_76 (dk_at dksX2_and_0 4 rfl rfl)
theorem dX2_and_5 : decode cX2_and 5 = .ok (.aload_n 0, 1) := dk_42 (dk_at dksX2_and_0 5 rfl rfl)
theorem dX2_and_6 : decode cX2_and 6 = .ok (.bipush 11, 2) := dk_16 11 (dk_at dksX2_and_0 6 rfl rfl)
theorem dX2_and_8 : decode cX2_and 8 = .ok (.bipush 11, 2) := dk_16 11 (dk_at dksX2_and_0 8 rfl rfl)
theorem dX2_and_10 : decode cX2_and 10 = .ok (.invokevirtual 132, 3) := dk_182 0 132 (dk_at dksX2_and_0 10 rfl rfl)
theorem dX2_and_13 : decode cX2_and 13 = .ok (.ifCond .eq 25, 3) := dk_153 0 25 (dk_at dksX2_and_0 13 rfl rfl)
theorem dX2_and_16 : decode cX2_and 16 = .ok (.aload_n 0, 1) := dk_42 (dk_at dksX2_and_0 16 rfl rfl)
theorem dX2_and_17 : decode cX2_and 17 = .ok (.invokevirtual 222, 3) := dk_182 0 222 (dk_at dksX2_and_0 17 rfl rfl)
theorem dX2_and_20 : decode cX2_and 20 = .ok (.istore_n 2, 1) := dk_61 (dk_at dksX2_and_0 20 rfl rfl)
theorem dX2_and_21 : decode cX2_and 21 = .ok (.new 225, 3) := dk_187 0 225 (dk_at dksX2_and_0 21 rfl rfl)
theorem dX2_and_24 : decode cX2_and 24 = .ok (.dup, 1) := dk_89 (dk_at dksX2_and_1 0 rfl rfl)
theorem dX2_and_25 : decode cX2_and 25 = .ok (.iload_n 2, 1) := dk_28 (dk_at dksX2_and_1 1 rfl rfl)
theorem dX2_and_26 : decode cX2_and 26 = .ok (.aload_n 1, 1) := dk_43 (dk_at dksX2_and_1 2 rfl rfl)
theorem dX2_and_27 : decode cX2_and 27 = .ok (.aload_n 0, 1) := dk_42 (dk_at dksX2_and_1 3 rfl rfl)
theorem dX2_and_28 : decode cX2_and 28 = .ok (.invokevirtual 230, 3) := dk_182 0 230 (dk_at dksX2_and_1 4 rfl rfl)
theorem dX2_and_31 : decode cX2_and 31 = .ok (.invokespecial 227, 3) := dk_183 0 227 (dk_at dksX2_and_1 7 rfl rfl)
theorem dX2_and_34 : decode cX2_and 34 = .ok (.astore_n 1, 1) := dk_76 (dk_at dksX2_and_1 10 rfl rfl)
theorem dX2_and_35 : decode cX2_and 35 = .ok (.goto (-30), 3) := dk_167 255 226 (dk_at dksX2_and_1 11 rfl rfl)
theorem dX2_and_38 : decode cX2_and 38 = .ok (.aload_n 1, 1) := dk_43 (dk_at dksX2_and_1 14 rfl rfl)
theorem dX2_and_39 : decode cX2_and 39 = .ok (.areturn, 1) := dk_176 (dk_at dksX2_and_1 15 rfl rfl)
abbrev cX2_not : ByteArray := prog_14_method_22_code
def yX2_not : MethodName := ⟨RX2, "not", "()LTroughTreaty$Part;"⟩
def dkwX2_not_1 : List UInt8 := [89, 42, 182, 0, 230, 183, 0, 238, 176]
abbrev dktX2_not_1 : List UInt8 := dkwX2_not_1 ++ []
def dkwX2_not_0 : List UInt8 := [42, 16, 12, 16, 12, 182, 0, 132, 154, 0, 8, 42, 182, 0, 233, 176, 42, 182, 0, 222, 87, 187, 0, 236]
abbrev dktX2_not_0 : List UInt8 := dkwX2_not_0 ++ dktX2_not_1
theorem dksX2_not_0 : cX2_not.data.toList.drop 0 = dktX2_not_0 := by decide +kernel
theorem dksX2_not_1 : cX2_not.data.toList.drop 24 = dktX2_not_1 := dk_seg dksX2_not_0 24 rfl rfl
theorem dX2_not_0 : decode cX2_not 0 = .ok (.aload_n 0, 1) := dk_42 (dk_at dksX2_not_0 0 rfl rfl)
theorem dX2_not_1 : decode cX2_not 1 = .ok (.bipush 12, 2) := dk_16 12 (dk_at dksX2_not_0 1 rfl rfl)
theorem dX2_not_3 : decode cX2_not 3 = .ok (.bipush 12, 2) := dk_16 12 (dk_at dksX2_not_0 3 rfl rfl)
theorem dX2_not_5 : decode cX2_not 5 = .ok (.invokevirtual 132, 3) := dk_182 0 132 (dk_at dksX2_not_0 5 rfl rfl)
theorem dX2_not_8 : decode cX2_not 8 = .ok (.ifCond .ne 8, 3) := dk_154 0 8 (dk_at dksX2_not_0 8 rfl rfl)
theorem dX2_not_11 : decode cX2_not 11 = .ok (.aload_n 0, 1) := dk_42 (dk_at dksX2_not_0 11 rfl rfl)
theorem dX2_not_12 : decode cX2_not 12 = .ok (.invokevirtual 233, 3) := dk_182 0 233 (dk_at dksX2_not_0 12 rfl rfl)
theorem dX2_not_15 : decode cX2_not 15 = .ok (.areturn, 1) := dk_176 (dk_at dksX2_not_0 15 rfl rfl)
theorem dX2_not_16 : decode cX2_not 16 = .ok (.aload_n 0, 1) := dk_42 (dk_at dksX2_not_0 16 rfl rfl)
theorem dX2_not_17 : decode cX2_not 17 = .ok (.invokevirtual 222, 3) := dk_182 0 222 (dk_at dksX2_not_0 17 rfl rfl)
theorem dX2_not_20 : decode cX2_not 20 = .ok (.pop, 1) := dk_87 (dk_at dksX2_not_0 20 rfl rfl)
theorem dX2_not_21 : decode cX2_not 21 = .ok (.new 236, 3) := dk_187 0 236 (dk_at dksX2_not_0 21 rfl rfl)
theorem dX2_not_24 : decode cX2_not 24 = .ok (.dup, 1) := dk_89 (dk_at dksX2_not_1 0 rfl rfl)
theorem dX2_not_25 : decode cX2_not 25 = .ok (.aload_n 0, 1) := dk_42 (dk_at dksX2_not_1 1 rfl rfl)
theorem dX2_not_26 : decode cX2_not 26 = .ok (.invokevirtual 230, 3) := dk_182 0 230 (dk_at dksX2_not_1 2 rfl rfl)
theorem dX2_not_29 : decode cX2_not 29 = .ok (.invokespecial 238, 3) := dk_183 0 238 (dk_at dksX2_not_1 5 rfl rfl)
theorem dX2_not_32 : decode cX2_not 32 = .ok (.areturn, 1) := dk_176 (dk_at dksX2_not_1 8 rfl rfl)
abbrev cX2_compare : ByteArray := prog_14_method_23_code
def yX2_compare : MethodName := ⟨RX2, "compare", "()LTroughTreaty$Part;"⟩
def dkwX2_compare_2 : List UInt8 := [162, 0, 5, 43, 176, 42, 182, 0, 222, 61, 187, 0, 225, 89, 28, 43, 42, 182, 0, 241, 183, 0, 227, 176]
abbrev dktX2_compare_2 : List UInt8 := dkwX2_compare_2 ++ []
def dkwX2_compare_1 : List UInt8 := [16, 61, 182, 0, 181, 154, 0, 23, 42, 180, 0, 33, 6, 160, 0, 13, 42, 180, 0, 47, 17, 1, 0]
abbrev dktX2_compare_1 : List UInt8 := dkwX2_compare_1 ++ dktX2_compare_2
def dkwX2_compare_0 : List UInt8 := [42, 182, 0, 241, 76, 42, 16, 60, 182, 0, 181, 154, 0, 41, 42, 16, 62, 182, 0, 181, 154, 0, 32, 42]
abbrev dktX2_compare_0 : List UInt8 := dkwX2_compare_0 ++ dktX2_compare_1
theorem dksX2_compare_0 : cX2_compare.data.toList.drop 0 = dktX2_compare_0 := by decide +kernel
theorem dksX2_compare_1 : cX2_compare.data.toList.drop 24 = dktX2_compare_1 := dk_seg dksX2_compare_0 24 rfl rfl
theorem dksX2_compare_2 : cX2_compare.data.toList.drop 47 = dktX2_compare_2 := dk_seg dksX2_compare_1 23 rfl rfl
theorem dX2_compare_0 : decode cX2_compare 0 = .ok (.aload_n 0, 1) := dk_42 (dk_at dksX2_compare_0 0 rfl rfl)
theorem dX2_compare_1 : decode cX2_compare 1 = .ok (.invokevirtual 241, 3) := dk_182 0 241 (dk_at dksX2_compare_0 1 rfl rfl)
theorem dX2_compare_4 : decode cX2_compare 4 = .ok (.astore_n 1, 1) := dk_76 (dk_at dksX2_compare_0 4 rfl rfl)
theorem dX2_compare_5 : decode cX2_compare 5 = .ok (.aload_n 0, 1) := dk_42 (dk_at dksX2_compare_0 5 rfl rfl)
theorem dX2_compare_6 : decode cX2_compare 6 = .ok (.bipush 60, 2) := dk_16 60 (dk_at dksX2_compare_0 6 rfl rfl)
theorem dX2_compare_8 : decode cX2_compare 8 = .ok (.invokevirtual 181, 3) := dk_182 0 181 (dk_at dksX2_compare_0 8 rfl rfl)
theorem dX2_compare_11 : decode cX2_compare 11 = .ok (.ifCond .ne 41, 3) := dk_154 0 41 (dk_at dksX2_compare_0 11 rfl rfl)
theorem dX2_compare_14 : decode cX2_compare 14 = .ok (.aload_n 0, 1) := dk_42 (dk_at dksX2_compare_0 14 rfl rfl)
theorem dX2_compare_15 : decode cX2_compare 15 = .ok (.bipush 62, 2) := dk_16 62 (dk_at dksX2_compare_0 15 rfl rfl)
theorem dX2_compare_17 : decode cX2_compare 17 = .ok (.invokevirtual 181, 3) := dk_182 0 181 (dk_at dksX2_compare_0 17 rfl rfl)
theorem dX2_compare_20 : decode cX2_compare 20 = .ok (.ifCond .ne 32, 3) := dk_154 0 32 (dk_at dksX2_compare_0 20 rfl rfl)
theorem dX2_compare_23 : decode cX2_compare 23 = .ok (.aload_n 0, 1) := dk_42 (dk_at dksX2_compare_0 23 rfl rfl)
theorem dX2_compare_24 : decode cX2_compare 24 = .ok (.bipush 61, 2) := dk_16 61 (dk_at dksX2_compare_1 0 rfl rfl)
theorem dX2_compare_26 : decode cX2_compare 26 = .ok (.invokevirtual 181, 3) := dk_182 0 181 (dk_at dksX2_compare_1 2 rfl rfl)
theorem dX2_compare_29 : decode cX2_compare 29 = .ok (.ifCond .ne 23, 3) := dk_154 0 23 (dk_at dksX2_compare_1 5 rfl rfl)
theorem dX2_compare_32 : decode cX2_compare 32 = .ok (.aload_n 0, 1) := dk_42 (dk_at dksX2_compare_1 8 rfl rfl)
theorem dX2_compare_33 : decode cX2_compare 33 = .ok (.getfield 33, 3) := dk_180 0 33 (dk_at dksX2_compare_1 9 rfl rfl)
theorem dX2_compare_36 : decode cX2_compare 36 = .ok (.iconst 3, 1) := dk_6 (dk_at dksX2_compare_1 12 rfl rfl)
theorem dX2_compare_37 : decode cX2_compare 37 = .ok (.if_icmp .ne 13, 3) := dk_160 0 13 (dk_at dksX2_compare_1 13 rfl rfl)
theorem dX2_compare_40 : decode cX2_compare 40 = .ok (.aload_n 0, 1) := dk_42 (dk_at dksX2_compare_1 16 rfl rfl)
theorem dX2_compare_41 : decode cX2_compare 41 = .ok (.getfield 47, 3) := dk_180 0 47 (dk_at dksX2_compare_1 17 rfl rfl)
theorem dX2_compare_44 : decode cX2_compare 44 = .ok (.sipush 256, 3) := dk_17 1 0 (dk_at dksX2_compare_1 20 rfl rfl)
theorem dX2_compare_47 : decode cX2_compare 47 = .ok (.if_icmp .ge 5, 3) := dk_162 0 5 (dk_at dksX2_compare_2 0 rfl rfl)
theorem dX2_compare_50 : decode cX2_compare 50 = .ok (.aload_n 1, 1) := dk_43 (dk_at dksX2_compare_2 3 rfl rfl)
theorem dX2_compare_51 : decode cX2_compare 51 = .ok (.areturn, 1) := dk_176 (dk_at dksX2_compare_2 4 rfl rfl)
theorem dX2_compare_52 : decode cX2_compare 52 = .ok (.aload_n 0, 1) := dk_42 (dk_at dksX2_compare_2 5 rfl rfl)
theorem dX2_compare_53 : decode cX2_compare 53 = .ok (.invokevirtual 222, 3) := dk_182 0 222 (dk_at dksX2_compare_2 6 rfl rfl)
theorem dX2_compare_56 : decode cX2_compare 56 = .ok (.istore_n 2, 1) := dk_61 (dk_at dksX2_compare_2 9 rfl rfl)
theorem dX2_compare_57 : decode cX2_compare 57 = .ok (.new 225, 3) := dk_187 0 225 (dk_at dksX2_compare_2 10 rfl rfl)
theorem dX2_compare_60 : decode cX2_compare 60 = .ok (.dup, 1) := dk_89 (dk_at dksX2_compare_2 13 rfl rfl)
theorem dX2_compare_61 : decode cX2_compare 61 = .ok (.iload_n 2, 1) := dk_28 (dk_at dksX2_compare_2 14 rfl rfl)
theorem dX2_compare_62 : decode cX2_compare 62 = .ok (.aload_n 1, 1) := dk_43 (dk_at dksX2_compare_2 15 rfl rfl)
theorem dX2_compare_63 : decode cX2_compare 63 = .ok (.aload_n 0, 1) := dk_42 (dk_at dksX2_compare_2 16 rfl rfl)
theorem dX2_compare_64 : decode cX2_compare 64 = .ok (.invokevirtual 241, 3) := dk_182 0 241 (dk_at dksX2_compare_2 17 rfl rfl)
theorem dX2_compare_67 : decode cX2_compare 67 = .ok (.invokespecial 227, 3) := dk_183 0 227 (dk_at dksX2_compare_2 20 rfl rfl)
theorem dX2_compare_70 : decode cX2_compare 70 = .ok (.areturn, 1) := dk_176 (dk_at dksX2_compare_2 23 rfl rfl)
abbrev cX2_sum : ByteArray := prog_14_method_24_code
def yX2_sum : MethodName := ⟨RX2, "sum", "()LTroughTreaty$Part;"⟩
def dkwX2_sum_1 : List UInt8 := [182, 0, 222, 61, 187, 0, 225, 89, 28, 43, 42, 182, 0, 244, 183, 0, 227, 76, 167, 255, 219, 43, 176]
abbrev dktX2_sum_1 : List UInt8 := dkwX2_sum_1 ++ []
def dkwX2_sum_0 : List UInt8 := [42, 182, 0, 244, 76, 42, 16, 43, 182, 0, 181, 154, 0, 12, 42, 16, 45, 182, 0, 181, 153, 0, 25, 42]
abbrev dktX2_sum_0 : List UInt8 := dkwX2_sum_0 ++ dktX2_sum_1
theorem dksX2_sum_0 : cX2_sum.data.toList.drop 0 = dktX2_sum_0 := by decide +kernel
theorem dksX2_sum_1 : cX2_sum.data.toList.drop 24 = dktX2_sum_1 := dk_seg dksX2_sum_0 24 rfl rfl
theorem dX2_sum_0 : decode cX2_sum 0 = .ok (.aload_n 0, 1) := dk_42 (dk_at dksX2_sum_0 0 rfl rfl)
theorem dX2_sum_1 : decode cX2_sum 1 = .ok (.invokevirtual 244, 3) := dk_182 0 244 (dk_at dksX2_sum_0 1 rfl rfl)
theorem dX2_sum_4 : decode cX2_sum 4 = .ok (.astore_n 1, 1) := dk_76 (dk_at dksX2_sum_0 4 rfl rfl)
theorem dX2_sum_5 : decode cX2_sum 5 = .ok (.aload_n 0, 1) := dk_42 (dk_at dksX2_sum_0 5 rfl rfl)
theorem dX2_sum_6 : decode cX2_sum 6 = .ok (.bipush 43, 2) := dk_16 43 (dk_at dksX2_sum_0 6 rfl rfl)
theorem dX2_sum_8 : decode cX2_sum 8 = .ok (.invokevirtual 181, 3) := dk_182 0 181 (dk_at dksX2_sum_0 8 rfl rfl)
theorem dX2_sum_11 : decode cX2_sum 11 = .ok (.ifCond .ne 12, 3) := dk_154 0 12 (dk_at dksX2_sum_0 11 rfl rfl)
theorem dX2_sum_14 : decode cX2_sum 14 = .ok (.aload_n 0, 1) := dk_42 (dk_at dksX2_sum_0 14 rfl rfl)
theorem dX2_sum_15 : decode cX2_sum 15 = .ok (.bipush 45, 2) := dk_16 45 (dk_at dksX2_sum_0 15 rfl rfl)
theorem dX2_sum_17 : decode cX2_sum 17 = .ok (.invokevirtual 181, 3) := dk_182 0 181 (dk_at dksX2_sum_0 17 rfl rfl)
theorem dX2_sum_20 : decode cX2_sum 20 = .ok (.ifCond .eq 25, 3) := dk_153 0 25 (dk_at dksX2_sum_0 20 rfl rfl)
theorem dX2_sum_23 : decode cX2_sum 23 = .ok (.aload_n 0, 1) := dk_42 (dk_at dksX2_sum_0 23 rfl rfl)
theorem dX2_sum_24 : decode cX2_sum 24 = .ok (.invokevirtual 222, 3) := dk_182 0 222 (dk_at dksX2_sum_1 0 rfl rfl)
theorem dX2_sum_27 : decode cX2_sum 27 = .ok (.istore_n 2, 1) := dk_61 (dk_at dksX2_sum_1 3 rfl rfl)
theorem dX2_sum_28 : decode cX2_sum 28 = .ok (.new 225, 3) := dk_187 0 225 (dk_at dksX2_sum_1 4 rfl rfl)
theorem dX2_sum_31 : decode cX2_sum 31 = .ok (.dup, 1) := dk_89 (dk_at dksX2_sum_1 7 rfl rfl)
theorem dX2_sum_32 : decode cX2_sum 32 = .ok (.iload_n 2, 1) := dk_28 (dk_at dksX2_sum_1 8 rfl rfl)
theorem dX2_sum_33 : decode cX2_sum 33 = .ok (.aload_n 1, 1) := dk_43 (dk_at dksX2_sum_1 9 rfl rfl)
theorem dX2_sum_34 : decode cX2_sum 34 = .ok (.aload_n 0, 1) := dk_42 (dk_at dksX2_sum_1 10 rfl rfl)
theorem dX2_sum_35 : decode cX2_sum 35 = .ok (.invokevirtual 244, 3) := dk_182 0 244 (dk_at dksX2_sum_1 11 rfl rfl)
theorem dX2_sum_38 : decode cX2_sum 38 = .ok (.invokespecial 227, 3) := dk_183 0 227 (dk_at dksX2_sum_1 14 rfl rfl)
theorem dX2_sum_41 : decode cX2_sum 41 = .ok (.astore_n 1, 1) := dk_76 (dk_at dksX2_sum_1 17 rfl rfl)
theorem dX2_sum_42 : decode cX2_sum 42 = .ok (.goto (-37), 3) := dk_167 255 219 (dk_at dksX2_sum_1 18 rfl rfl)
theorem dX2_sum_45 : decode cX2_sum 45 = .ok (.aload_n 1, 1) := dk_43 (dk_at dksX2_sum_1 21 rfl rfl)
theorem dX2_sum_46 : decode cX2_sum 46 = .ok (.areturn, 1) := dk_176 (dk_at dksX2_sum_1 22 rfl rfl)
abbrev cX2_product : ByteArray := prog_14_method_25_code
def yX2_product : MethodName := ⟨RX2, "product", "()LTroughTreaty$Part;"⟩
def dkwX2_product_1 : List UInt8 := [182, 0, 222, 61, 187, 0, 225, 89, 28, 43, 42, 182, 0, 247, 183, 0, 227, 76, 167, 255, 219, 43, 176]
abbrev dktX2_product_1 : List UInt8 := dkwX2_product_1 ++ []
def dkwX2_product_0 : List UInt8 := [42, 182, 0, 247, 76, 42, 16, 42, 182, 0, 181, 154, 0, 12, 42, 16, 47, 182, 0, 181, 153, 0, 25, 42]
abbrev dktX2_product_0 : List UInt8 := dkwX2_product_0 ++ dktX2_product_1
theorem dksX2_product_0 : cX2_product.data.toList.drop 0 = dktX2_product_0 := by decide +kernel
theorem dksX2_product_1 : cX2_product.data.toList.drop 24 = dktX2_product_1 := dk_seg dksX2_product_0 24 rfl rfl
theorem dX2_product_0 : decode cX2_product 0 = .ok (.aload_n 0, 1) := dk_42 (dk_at dksX2_product_0 0 rfl rfl)
theorem dX2_product_1 : decode cX2_product 1 = .ok (.invokevirtual 247, 3) := dk_182 0 247 (dk_at dksX2_product_0 1 rfl rfl)
theorem dX2_product_4 : decode cX2_product 4 = .ok (.astore_n 1, 1) := dk_76 (dk_at dksX2_product_0 4 rfl rfl)
theorem dX2_product_5 : decode cX2_product 5 = .ok (.aload_n 0, 1) := dk_42 (dk_at dksX2_product_0 5 rfl rfl)
theorem dX2_product_6 : decode cX2_product 6 = .ok (.bipush 42, 2) := dk_16 42 (dk_at dksX2_product_0 6 rfl rfl)
theorem dX2_product_8 : decode cX2_product 8 = .ok (.invokevirtual 181, 3) := dk_182 0 181 (dk_at dksX2_product_0 8 rfl rfl)
theorem dX2_product_11 : decode cX2_product 11 = .ok (.ifCond .ne 12, 3) := dk_154 0 12 (dk_at dksX2_product_0 11 rfl rfl)
theorem dX2_product_14 : decode cX2_product 14 = .ok (.aload_n 0, 1) := dk_42 (dk_at dksX2_product_0 14 rfl rfl)
theorem dX2_product_15 : decode cX2_product 15 = .ok (.bipush 47, 2) := dk_16 47 (dk_at dksX2_product_0 15 rfl rfl)
theorem dX2_product_17 : decode cX2_product 17 = .ok (.invokevirtual 181, 3) := dk_182 0 181 (dk_at dksX2_product_0 17 rfl rfl)
theorem dX2_product_20 : decode cX2_product 20 = .ok (.ifCond .eq 25, 3) := dk_153 0 25 (dk_at dksX2_product_0 20 rfl rfl)
theorem dX2_product_23 : decode cX2_product 23 = .ok (.aload_n 0, 1) := dk_42 (dk_at dksX2_product_0 23 rfl rfl)
theorem dX2_product_24 : decode cX2_product 24 = .ok (.invokevirtual 222, 3) := dk_182 0 222 (dk_at dksX2_product_1 0 rfl rfl)
theorem dX2_product_27 : decode cX2_product 27 = .ok (.istore_n 2, 1) := dk_61 (dk_at dksX2_product_1 3 rfl rfl)
theorem dX2_product_28 : decode cX2_product 28 = .ok (.new 225, 3) := dk_187 0 225 (dk_at dksX2_product_1 4 rfl rfl)
theorem dX2_product_31 : decode cX2_product 31 = .ok (.dup, 1) := dk_89 (dk_at dksX2_product_1 7 rfl rfl)
theorem dX2_product_32 : decode cX2_product 32 = .ok (.iload_n 2, 1) := dk_28 (dk_at dksX2_product_1 8 rfl rfl)
theorem dX2_product_33 : decode cX2_product 33 = .ok (.aload_n 1, 1) := dk_43 (dk_at dksX2_product_1 9 rfl rfl)
theorem dX2_product_34 : decode cX2_product 34 = .ok (.aload_n 0, 1) := dk_42 (dk_at dksX2_product_1 10 rfl rfl)
theorem dX2_product_35 : decode cX2_product 35 = .ok (.invokevirtual 247, 3) := dk_182 0 247 (dk_at dksX2_product_1 11 rfl rfl)
theorem dX2_product_38 : decode cX2_product 38 = .ok (.invokespecial 227, 3) := dk_183 0 227 (dk_at dksX2_product_1 14 rfl rfl)
theorem dX2_product_41 : decode cX2_product 41 = .ok (.astore_n 1, 1) := dk_76 (dk_at dksX2_product_1 17 rfl rfl)
theorem dX2_product_42 : decode cX2_product 42 = .ok (.goto (-37), 3) := dk_167 255 219 (dk_at dksX2_product_1 18 rfl rfl)
theorem dX2_product_45 : decode cX2_product 45 = .ok (.aload_n 1, 1) := dk_43 (dk_at dksX2_product_1 21 rfl rfl)
theorem dX2_product_46 : decode cX2_product 46 = .ok (.areturn, 1) := dk_176 (dk_at dksX2_product_1 22 rfl rfl)
abbrev cX2_one : ByteArray := prog_14_method_26_code
def yX2_one : MethodName := ⟨RX2, "one", "()LTroughTreaty$Part;"⟩
def dkwX2_one_6 : List UInt8 := [16, 13, 100, 183, 0, 255, 176]
abbrev dktX2_one_6 : List UInt8 := dkwX2_one_6 ++ []
def dkwX2_one_5 : List UInt8 := [42, 180, 0, 47, 16, 13, 162, 0, 9, 42, 4, 182, 0, 85, 191, 187, 0, 253, 89, 42, 182, 0, 222]
abbrev dktX2_one_5 : List UInt8 := dkwX2_one_5 ++ dktX2_one_6
def dkwX2_one_4 : List UInt8 := [5, 182, 0, 85, 191, 187, 0, 250, 89, 42, 182, 0, 222, 183, 0, 252, 176, 42, 180, 0, 33, 154, 0, 12]
abbrev dktX2_one_4 : List UInt8 := dkwX2_one_4 ++ dktX2_one_5
def dkwX2_one_3 : List UInt8 := [182, 0, 93, 43, 176, 42, 180, 0, 33, 5, 160, 0, 31, 42, 180, 0, 47, 17, 39, 15, 164, 0, 9, 42]
abbrev dktX2_one_3 : List UInt8 := dkwX2_one_3 ++ dktX2_one_4
def dkwX2_one_2 : List UInt8 := [182, 0, 181, 154, 0, 9, 42, 4, 182, 0, 85, 191, 42, 89, 180, 0, 102, 4, 100, 181, 0, 102, 42]
abbrev dktX2_one_2 : List UInt8 := dkwX2_one_2 ++ dktX2_one_3
def dkwX2_one_1 : List UInt8 := [42, 89, 180, 0, 102, 4, 96, 181, 0, 102, 42, 182, 0, 93, 42, 182, 0, 177, 76, 42, 16, 41]
abbrev dktX2_one_1 : List UInt8 := dkwX2_one_1 ++ dktX2_one_2
def dkwX2_one_0 : List UInt8 := [42, 16, 40, 182, 0, 181, 153, 0, 68, 42, 180, 0, 102, 16, 8, 160, 0, 9, 42, 5, 182, 0, 85, 191]
abbrev dktX2_one_0 : List UInt8 := dkwX2_one_0 ++ dktX2_one_1
theorem dksX2_one_0 : cX2_one.data.toList.drop 0 = dktX2_one_0 := by decide +kernel
theorem dksX2_one_1 : cX2_one.data.toList.drop 24 = dktX2_one_1 := dk_seg dksX2_one_0 24 rfl rfl
theorem dksX2_one_2 : cX2_one.data.toList.drop 46 = dktX2_one_2 := dk_seg dksX2_one_1 22 rfl rfl
theorem dksX2_one_3 : cX2_one.data.toList.drop 69 = dktX2_one_3 := dk_seg dksX2_one_2 23 rfl rfl
theorem dksX2_one_4 : cX2_one.data.toList.drop 93 = dktX2_one_4 := dk_seg dksX2_one_3 24 rfl rfl
theorem dksX2_one_5 : cX2_one.data.toList.drop 117 = dktX2_one_5 := dk_seg dksX2_one_4 24 rfl rfl
theorem dksX2_one_6 : cX2_one.data.toList.drop 140 = dktX2_one_6 := dk_seg dksX2_one_5 23 rfl rfl
theorem dX2_one_0 : decode cX2_one 0 = .ok (.aload_n 0, 1) := dk_42 (dk_at dksX2_one_0 0 rfl rfl)
theorem dX2_one_1 : decode cX2_one 1 = .ok (.bipush 40, 2) := dk_16 40 (dk_at dksX2_one_0 1 rfl rfl)
theorem dX2_one_3 : decode cX2_one 3 = .ok (.invokevirtual 181, 3) := dk_182 0 181 (dk_at dksX2_one_0 3 rfl rfl)
theorem dX2_one_6 : decode cX2_one 6 = .ok (.ifCond .eq 68, 3) := dk_153 0 68 (dk_at dksX2_one_0 6 rfl rfl)
theorem dX2_one_9 : decode cX2_one 9 = .ok (.aload_n 0, 1) := dk_42 (dk_at dksX2_one_0 9 rfl rfl)
theorem dX2_one_10 : decode cX2_one 10 = .ok (.getfield 102, 3) := dk_180 0 102 (dk_at dksX2_one_0 10 rfl rfl)
theorem dX2_one_13 : decode cX2_one 13 = .ok (.bipush 8, 2) := dk_16 8 (dk_at dksX2_one_0 13 rfl rfl)
theorem dX2_one_15 : decode cX2_one 15 = .ok (.if_icmp .ne 9, 3) := dk_160 0 9 (dk_at dksX2_one_0 15 rfl rfl)
theorem dX2_one_18 : decode cX2_one 18 = .ok (.aload_n 0, 1) := dk_42 (dk_at dksX2_one_0 18 rfl rfl)
theorem dX2_one_19 : decode cX2_one 19 = .ok (.iconst 2, 1) := dk_5 (dk_at dksX2_one_0 19 rfl rfl)
theorem dX2_one_20 : decode cX2_one 20 = .ok (.invokevirtual 85, 3) := dk_182 0 85 (dk_at dksX2_one_0 20 rfl rfl)
theorem dX2_one_23 : decode cX2_one 23 = .ok (.athrow, 1) := dk_191 (dk_at dksX2_one_0 23 rfl rfl)
theorem dX2_one_24 : decode cX2_one 24 = .ok (.aload_n 0, 1) := dk_42 (dk_at dksX2_one_1 0 rfl rfl)
theorem dX2_one_25 : decode cX2_one 25 = .ok (.dup, 1) := dk_89 (dk_at dksX2_one_1 1 rfl rfl)
theorem dX2_one_26 : decode cX2_one 26 = .ok (.getfield 102, 3) := dk_180 0 102 (dk_at dksX2_one_1 2 rfl rfl)
theorem dX2_one_29 : decode cX2_one 29 = .ok (.iconst 1, 1) := dk_4 (dk_at dksX2_one_1 5 rfl rfl)
theorem dX2_one_30 : decode cX2_one 30 = .ok (.iadd, 1) := dk_96 (dk_at dksX2_one_1 6 rfl rfl)
theorem dX2_one_31 : decode cX2_one 31 = .ok (.putfield 102, 3) := dk_181 0 102 (dk_at dksX2_one_1 7 rfl rfl)
theorem dX2_one_34 : decode cX2_one 34 = .ok (.aload_n 0, 1) := dk_42 (dk_at dksX2_one_1 10 rfl rfl)
theorem dX2_one_35 : decode cX2_one 35 = .ok (.invokevirtual 93, 3) := dk_182 0 93 (dk_at dksX2_one_1 11 rfl rfl)
theorem dX2_one_38 : decode cX2_one 38 = .ok (.aload_n 0, 1) := dk_42 (dk_at dksX2_one_1 14 rfl rfl)
theorem dX2_one_39 : decode cX2_one 39 = .ok (.invokevirtual 177, 3) := dk_182 0 177 (dk_at dksX2_one_1 15 rfl rfl)
theorem dX2_one_42 : decode cX2_one 42 = .ok (.astore_n 1, 1) := dk_76 (dk_at dksX2_one_1 18 rfl rfl)
theorem dX2_one_43 : decode cX2_one 43 = .ok (.aload_n 0, 1) := dk_42 (dk_at dksX2_one_1 19 rfl rfl)
theorem dX2_one_44 : decode cX2_one 44 = .ok (.bipush 41, 2) := dk_16 41 (dk_at dksX2_one_1 20 rfl rfl)
theorem dX2_one_46 : decode cX2_one 46 = .ok (.invokevirtual 181, 3) := dk_182 0 181 (dk_at dksX2_one_2 0 rfl rfl)
theorem dX2_one_49 : decode cX2_one 49 = .ok (.ifCond .ne 9, 3) := dk_154 0 9 (dk_at dksX2_one_2 3 rfl rfl)
theorem dX2_one_52 : decode cX2_one 52 = .ok (.aload_n 0, 1) := dk_42 (dk_at dksX2_one_2 6 rfl rfl)
theorem dX2_one_53 : decode cX2_one 53 = .ok (.iconst 1, 1) := dk_4 (dk_at dksX2_one_2 7 rfl rfl)
theorem dX2_one_54 : decode cX2_one 54 = .ok (.invokevirtual 85, 3) := dk_182 0 85 (dk_at dksX2_one_2 8 rfl rfl)
theorem dX2_one_57 : decode cX2_one 57 = .ok (.athrow, 1) := dk_191 (dk_at dksX2_one_2 11 rfl rfl)
theorem dX2_one_58 : decode cX2_one 58 = .ok (.aload_n 0, 1) := dk_42 (dk_at dksX2_one_2 12 rfl rfl)
theorem dX2_one_59 : decode cX2_one 59 = .ok (.dup, 1) := dk_89 (dk_at dksX2_one_2 13 rfl rfl)
theorem dX2_one_60 : decode cX2_one 60 = .ok (.getfield 102, 3) := dk_180 0 102 (dk_at dksX2_one_2 14 rfl rfl)
theorem dX2_one_63 : decode cX2_one 63 = .ok (.iconst 1, 1) := dk_4 (dk_at dksX2_one_2 17 rfl rfl)
theorem dX2_one_64 : decode cX2_one 64 = .ok (.isub, 1) := dk_100 (dk_at dksX2_one_2 18 rfl rfl)
theorem dX2_one_65 : decode cX2_one 65 = .ok (.putfield 102, 3) := dk_181 0 102 (dk_at dksX2_one_2 19 rfl rfl)
theorem dX2_one_68 : decode cX2_one 68 = .ok (.aload_n 0, 1) := dk_42 (dk_at dksX2_one_2 22 rfl rfl)
theorem dX2_one_69 : decode cX2_one 69 = .ok (.invokevirtual 93, 3) := dk_182 0 93 (dk_at dksX2_one_3 0 rfl rfl)
theorem dX2_one_72 : decode cX2_one 72 = .ok (.aload_n 1, 1) := dk_43 (dk_at dksX2_one_3 3 rfl rfl)
theorem dX2_one_73 : decode cX2_one 73 = .ok (.areturn, 1) := dk_176 (dk_at dksX2_one_3 4 rfl rfl)
theorem dX2_one_74 : decode cX2_one 74 = .ok (.aload_n 0, 1) := dk_42 (dk_at dksX2_one_3 5 rfl rfl)
theorem dX2_one_75 : decode cX2_one 75 = .ok (.getfield 33, 3) := dk_180 0 33 (dk_at dksX2_one_3 6 rfl rfl)
theorem dX2_one_78 : decode cX2_one 78 = .ok (.iconst 2, 1) := dk_5 (dk_at dksX2_one_3 9 rfl rfl)
theorem dX2_one_79 : decode cX2_one 79 = .ok (.if_icmp .ne 31, 3) := dk_160 0 31 (dk_at dksX2_one_3 10 rfl rfl)
theorem dX2_one_82 : decode cX2_one 82 = .ok (.aload_n 0, 1) := dk_42 (dk_at dksX2_one_3 13 rfl rfl)
theorem dX2_one_83 : decode cX2_one 83 = .ok (.getfield 47, 3) := dk_180 0 47 (dk_at dksX2_one_3 14 rfl rfl)
theorem dX2_one_86 : decode cX2_one 86 = .ok (.sipush 9999, 3) := dk_17 39 15 (dk_at dksX2_one_3 17 rfl rfl)
theorem dX2_one_89 : decode cX2_one 89 = .ok (.if_icmp .le 9, 3) := dk_164 0 9 (dk_at dksX2_one_3 20 rfl rfl)
theorem dX2_one_92 : decode cX2_one 92 = .ok (.aload_n 0, 1) := dk_42 (dk_at dksX2_one_3 23 rfl rfl)
theorem dX2_one_93 : decode cX2_one 93 = .ok (.iconst 2, 1) := dk_5 (dk_at dksX2_one_4 0 rfl rfl)
theorem dX2_one_94 : decode cX2_one 94 = .ok (.invokevirtual 85, 3) := dk_182 0 85 (dk_at dksX2_one_4 1 rfl rfl)
theorem dX2_one_97 : decode cX2_one 97 = .ok (.athrow, 1) := dk_191 (dk_at dksX2_one_4 4 rfl rfl)
theorem dX2_one_98 : decode cX2_one 98 = .ok (.new 250, 3) := dk_187 0 250 (dk_at dksX2_one_4 5 rfl rfl)
theorem dX2_one_101 : decode cX2_one 101 = .ok (.dup, 1) := dk_89 (dk_at dksX2_one_4 8 rfl rfl)
theorem dX2_one_102 : decode cX2_one 102 = .ok (.aload_n 0, 1) := dk_42 (dk_at dksX2_one_4 9 rfl rfl)
theorem dX2_one_103 : decode cX2_one 103 = .ok (.invokevirtual 222, 3) := dk_182 0 222 (dk_at dksX2_one_4 10 rfl rfl)
theorem dX2_one_106 : decode cX2_one 106 = .ok (.invokespecial 252, 3) := dk_183 0 252 (dk_at dksX2_one_4 13 rfl rfl)
theorem dX2_one_109 : decode cX2_one 109 = .ok (.areturn, 1) := dk_176 (dk_at dksX2_one_4 16 rfl rfl)
theorem dX2_one_110 : decode cX2_one 110 = .ok (.aload_n 0, 1) := dk_42 (dk_at dksX2_one_4 17 rfl rfl)
theorem dX2_one_111 : decode cX2_one 111 = .ok (.getfield 33, 3) := dk_180 0 33 (dk_at dksX2_one_4 18 rfl rfl)
theorem dX2_one_114 : decode cX2_one 114 = .ok (.ifCond .ne 12, 3) := dk_154 0 12 (dk_at dksX2_one_4 21 rfl rfl)
theorem dX2_one_117 : decode cX2_one 117 = .ok (.aload_n 0, 1) := dk_42 (dk_at dksX2_one_5 0 rfl rfl)
theorem dX2_one_118 : decode cX2_one 118 = .ok (.getfield 47, 3) := dk_180 0 47 (dk_at dksX2_one_5 1 rfl rfl)
theorem dX2_one_121 : decode cX2_one 121 = .ok (.bipush 13, 2) := dk_16 13 (dk_at dksX2_one_5 4 rfl rfl)
theorem dX2_one_123 : decode cX2_one 123 = .ok (.if_icmp .ge 9, 3) := dk_162 0 9 (dk_at dksX2_one_5 6 rfl rfl)
theorem dX2_one_126 : decode cX2_one 126 = .ok (.aload_n 0, 1) := dk_42 (dk_at dksX2_one_5 9 rfl rfl)
theorem dX2_one_127 : decode cX2_one 127 = .ok (.iconst 1, 1) := dk_4 (dk_at dksX2_one_5 10 rfl rfl)
theorem dX2_one_128 : decode cX2_one 128 = .ok (.invokevirtual 85, 3) := dk_182 0 85 (dk_at dksX2_one_5 11 rfl rfl)
theorem dX2_one_131 : decode cX2_one 131 = .ok (.athrow, 1) := dk_191 (dk_at dksX2_one_5 14 rfl rfl)
theorem dX2_one_132 : decode cX2_one 132 = .ok (.new 253, 3) := dk_187 0 253 (dk_at dksX2_one_5 15 rfl rfl)
theorem dX2_one_135 : decode cX2_one 135 = .ok (.dup, 1) := dk_89 (dk_at dksX2_one_5 18 rfl rfl)
theorem dX2_one_136 : decode cX2_one 136 = .ok (.aload_n 0, 1) := dk_42 (dk_at dksX2_one_5 19 rfl rfl)
theorem dX2_one_137 : decode cX2_one 137 = .ok (.invokevirtual 222, 3) := dk_182 0 222 (dk_at dksX2_one_5 20 rfl rfl)
theorem dX2_one_140 : decode cX2_one 140 = .ok (.bipush 13, 2) := dk_16 13 (dk_at dksX2_one_6 0 rfl rfl)
theorem dX2_one_142 : decode cX2_one 142 = .ok (.isub, 1) := dk_100 (dk_at dksX2_one_6 2 rfl rfl)
theorem dX2_one_143 : decode cX2_one 143 = .ok (.invokespecial 255, 3) := dk_183 0 255 (dk_at dksX2_one_6 3 rfl rfl)
theorem dX2_one_146 : decode cX2_one 146 = .ok (.areturn, 1) := dk_176 (dk_at dksX2_one_6 6 rfl rfl)
abbrev cX2_isSign : ByteArray := prog_14_method_9_code
def yX2_isSign : MethodName := ⟨RX2, "isSign", "(I)Z"⟩
def dkwX2_isSign_0 : List UInt8 := [42, 180, 0, 33, 6, 160, 0, 15, 42, 180, 0, 47, 27, 160, 0, 7, 4, 167, 0, 4, 3, 172]
abbrev dktX2_isSign_0 : List UInt8 := dkwX2_isSign_0 ++ []
theorem dksX2_isSign_0 : cX2_isSign.data.toList.drop 0 = dktX2_isSign_0 := by decide +kernel
theorem dX2_isSign_0 : decode cX2_isSign 0 = .ok (.aload_n 0, 1) := dk_42 (dk_at dksX2_isSign_0 0 rfl rfl)
theorem dX2_isSign_1 : decode cX2_isSign 1 = .ok (.getfield 33, 3) := dk_180 0 33 (dk_at dksX2_isSign_0 1 rfl rfl)
theorem dX2_isSign_4 : decode cX2_isSign 4 = .ok (.iconst 3, 1) := dk_6 (dk_at dksX2_isSign_0 4 rfl rfl)
theorem dX2_isSign_5 : decode cX2_isSign 5 = .ok (.if_icmp .ne 15, 3) := dk_160 0 15 (dk_at dksX2_isSign_0 5 rfl rfl)
theorem dX2_isSign_8 : decode cX2_isSign 8 = .ok (.aload_n 0, 1) := dk_42 (dk_at dksX2_isSign_0 8 rfl rfl)
theorem dX2_isSign_9 : decode cX2_isSign 9 = .ok (.getfield 47, 3) := dk_180 0 47 (dk_at dksX2_isSign_0 9 rfl rfl)
theorem dX2_isSign_12 : decode cX2_isSign 12 = .ok (.iload_n 1, 1) := dk_27 (dk_at dksX2_isSign_0 12 rfl rfl)
theorem dX2_isSign_13 : decode cX2_isSign 13 = .ok (.if_icmp .ne 7, 3) := dk_160 0 7 (dk_at dksX2_isSign_0 13 rfl rfl)
theorem dX2_isSign_16 : decode cX2_isSign 16 = .ok (.iconst 1, 1) := dk_4 (dk_at dksX2_isSign_0 16 rfl rfl)
theorem dX2_isSign_17 : decode cX2_isSign 17 = .ok (.goto 4, 3) := dk_167 0 4 (dk_at dksX2_isSign_0 17 rfl rfl)
theorem dX2_isSign_20 : decode cX2_isSign 20 = .ok (.iconst 0, 1) := dk_3 (dk_at dksX2_isSign_0 20 rfl rfl)
theorem dX2_isSign_21 : decode cX2_isSign 21 = .ok (.ireturn, 1) := dk_172 (dk_at dksX2_isSign_0 21 rfl rfl)
abbrev cX2_knot : ByteArray := prog_14_method_19_code
def yX2_knot : MethodName := ⟨RX2, "knot", "()I"⟩
def dkwX2_knot_1 : List UInt8 := [180, 0, 216, 4, 96, 181, 0, 216, 42, 180, 0, 47, 60, 42, 182, 0, 93, 27, 172]
abbrev dktX2_knot_1 : List UInt8 := dkwX2_knot_1 ++ []
def dkwX2_knot_0 : List UInt8 := [42, 180, 0, 111, 180, 0, 216, 16, 64, 160, 0, 9, 42, 5, 182, 0, 85, 191, 42, 180, 0, 111, 89]
abbrev dktX2_knot_0 : List UInt8 := dkwX2_knot_0 ++ dktX2_knot_1
theorem dksX2_knot_0 : cX2_knot.data.toList.drop 0 = dktX2_knot_0 := by decide +kernel
theorem dksX2_knot_1 : cX2_knot.data.toList.drop 23 = dktX2_knot_1 := dk_seg dksX2_knot_0 23 rfl rfl
theorem dX2_knot_0 : decode cX2_knot 0 = .ok (.aload_n 0, 1) := dk_42 (dk_at dksX2_knot_0 0 rfl rfl)
theorem dX2_knot_1 : decode cX2_knot 1 = .ok (.getfield 111, 3) := dk_180 0 111 (dk_at dksX2_knot_0 1 rfl rfl)
theorem dX2_knot_4 : decode cX2_knot 4 = .ok (.getfield 216, 3) := dk_180 0 216 (dk_at dksX2_knot_0 4 rfl rfl)
theorem dX2_knot_7 : decode cX2_knot 7 = .ok (.bipush 64, 2) := dk_16 64 (dk_at dksX2_knot_0 7 rfl rfl)
theorem dX2_knot_9 : decode cX2_knot 9 = .ok (.if_icmp .ne 9, 3) := dk_160 0 9 (dk_at dksX2_knot_0 9 rfl rfl)
theorem dX2_knot_12 : decode cX2_knot 12 = .ok (.aload_n 0, 1) := dk_42 (dk_at dksX2_knot_0 12 rfl rfl)
theorem dX2_knot_13 : decode cX2_knot 13 = .ok (.iconst 2, 1) := dk_5 (dk_at dksX2_knot_0 13 rfl rfl)
theorem dX2_knot_14 : decode cX2_knot 14 = .ok (.invokevirtual 85, 3) := dk_182 0 85 (dk_at dksX2_knot_0 14 rfl rfl)
theorem dX2_knot_17 : decode cX2_knot 17 = .ok (.athrow, 1) := dk_191 (dk_at dksX2_knot_0 17 rfl rfl)
theorem dX2_knot_18 : decode cX2_knot 18 = .ok (.aload_n 0, 1) := dk_42 (dk_at dksX2_knot_0 18 rfl rfl)
theorem dX2_knot_19 : decode cX2_knot 19 = .ok (.getfield 111, 3) := dk_180 0 111 (dk_at dksX2_knot_0 19 rfl rfl)
theorem dX2_knot_22 : decode cX2_knot 22 = .ok (.dup, 1) := dk_89 (dk_at dksX2_knot_0 22 rfl rfl)
theorem dX2_knot_23 : decode cX2_knot 23 = .ok (.getfield 216, 3) := dk_180 0 216 (dk_at dksX2_knot_1 0 rfl rfl)
theorem dX2_knot_26 : decode cX2_knot 26 = .ok (.iconst 1, 1) := dk_4 (dk_at dksX2_knot_1 3 rfl rfl)
theorem dX2_knot_27 : decode cX2_knot 27 = .ok (.iadd, 1) := dk_96 (dk_at dksX2_knot_1 4 rfl rfl)
theorem dX2_knot_28 : decode cX2_knot 28 = .ok (.putfield 216, 3) := dk_181 0 216 (dk_at dksX2_knot_1 5 rfl rfl)
theorem dX2_knot_31 : decode cX2_knot 31 = .ok (.aload_n 0, 1) := dk_42 (dk_at dksX2_knot_1 8 rfl rfl)
theorem dX2_knot_32 : decode cX2_knot 32 = .ok (.getfield 47, 3) := dk_180 0 47 (dk_at dksX2_knot_1 9 rfl rfl)
theorem dX2_knot_35 : decode cX2_knot 35 = .ok (.istore_n 1, 1) := dk_60 (dk_at dksX2_knot_1 12 rfl rfl)
theorem dX2_knot_36 : decode cX2_knot 36 = .ok (.aload_n 0, 1) := dk_42 (dk_at dksX2_knot_1 13 rfl rfl)
theorem dX2_knot_37 : decode cX2_knot 37 = .ok (.invokevirtual 93, 3) := dk_182 0 93 (dk_at dksX2_knot_1 14 rfl rfl)
theorem dX2_knot_40 : decode cX2_knot 40 = .ok (.iload_n 1, 1) := dk_27 (dk_at dksX2_knot_1 17 rfl rfl)
theorem dX2_knot_41 : decode cX2_knot 41 = .ok (.ireturn, 1) := dk_172 (dk_at dksX2_knot_1 18 rfl rfl)
theorem q124 : (Jvm.Cond.initialized "TroughTreaty$Reader") ∈ lw_all := lw_g (lw_at lw_m1 2 rfl) rfl
theorem q173 : (Jvm.Cond.instantiable "TroughTreaty$Reader" (9 : Nat)) ∈ lw_all := lw_g (lw_at lw_m1 51 rfl) rfl
theorem q175 : (Jvm.Cond.instanceMethod ({ cls := "TroughTreaty$Reader", name := "<init>", desc := "(LTroughTreaty;)V" } : Jvm.MethodName)) ∈ lw_all := lw_g (lw_at lw_m1 53 rfl) rfl
theorem q176 : (Jvm.Cond.code ({ cls := "TroughTreaty$Reader", name := "<init>", desc := "(LTroughTreaty;)V" } : Jvm.MethodName) prog_14_method_1_code (2 : Nat) (Option.none : Option Jvm.ClassFile.FieldType)) ∈ lw_all := lw_g (lw_at lw_m1 54 rfl) rfl
theorem q177 : (Jvm.Cond.methodLink "TroughTreaty$Reader" (9 : Nat) ({ cls := "java/lang/Object", name := "<init>", desc := "()V" } : Jvm.MethodName)) ∈ lw_all := lw_g (lw_at lw_m1 55 rfl) rfl
theorem q178 : (Jvm.Cond.fieldLink "TroughTreaty$Reader" (15 : Nat) "TroughTreaty$Reader" "at" "I") ∈ lw_all := lw_g (lw_at lw_m1 56 rfl) rfl
theorem q179 : (Jvm.Cond.fieldLink "TroughTreaty$Reader" (19 : Nat) "TroughTreaty$Reader" "size" "I") ∈ lw_all := lw_g (lw_at lw_m1 57 rfl) rfl
theorem q180 : (Jvm.Cond.fieldLink "TroughTreaty$Reader" (30 : Nat) "TroughTreaty$Reader" "place" "I") ∈ lw_all := lw_g (lw_at lw_m1 58 rfl) rfl
theorem q181 : (Jvm.Cond.fieldLink "TroughTreaty$Reader" (33 : Nat) "TroughTreaty$Reader" "sort" "I") ∈ lw_all := lw_g (lw_at lw_m1 59 rfl) rfl
theorem q182 : (Jvm.Cond.fieldLink "TroughTreaty$Reader" (47 : Nat) "TroughTreaty$Reader" "value" "I") ∈ lw_all := lw_g (lw_at lw_m1 60 rfl) rfl
theorem q183 : (Jvm.Cond.fieldLink "TroughTreaty$Reader" (102 : Nat) "TroughTreaty$Reader" "open" "I") ∈ lw_all := lw_g (lw_at lw_m1 61 rfl) rfl
theorem q184 : (Jvm.Cond.fieldLink "TroughTreaty$Reader" (105 : Nat) "TroughTreaty$Reader" "told" "I") ∈ lw_all := lw_g (lw_at lw_m1 62 rfl) rfl
theorem q185 : (Jvm.Cond.fieldLink "TroughTreaty$Reader" (111 : Nat) "TroughTreaty$Reader" "made" "LTroughTreaty$Road;") ∈ lw_all := lw_g (lw_at lw_m1 63 rfl) rfl
theorem q186 : (Jvm.Cond.fieldLink "TroughTreaty$Reader" (3 : Nat) "TroughTreaty$Reader" "this$0" "LTroughTreaty;") ∈ lw_all := lw_g (lw_at lw_m1 64 rfl) rfl
theorem q187 : (Jvm.Cond.lays "TroughTreaty$Reader" "TroughTreaty$Reader" "at" "I") ∈ lw_all := lw_g (lw_at lw_m1 65 rfl) rfl
theorem q188 : (Jvm.Cond.soleField "TroughTreaty$Reader" "at") ∈ lw_all := lw_g (lw_at lw_m1 66 rfl) rfl
theorem q189 : (Jvm.Cond.lays "TroughTreaty$Reader" "TroughTreaty$Reader" "size" "I") ∈ lw_all := lw_g (lw_at lw_m1 67 rfl) rfl
theorem q190 : (Jvm.Cond.soleField "TroughTreaty$Reader" "size") ∈ lw_all := lw_g (lw_at lw_m1 68 rfl) rfl
theorem q191 : (Jvm.Cond.lays "TroughTreaty$Reader" "TroughTreaty$Reader" "place" "I") ∈ lw_all := lw_g (lw_at lw_m1 69 rfl) rfl
theorem q192 : (Jvm.Cond.soleField "TroughTreaty$Reader" "place") ∈ lw_all := lw_g (lw_at lw_m1 70 rfl) rfl
theorem q193 : (Jvm.Cond.lays "TroughTreaty$Reader" "TroughTreaty$Reader" "sort" "I") ∈ lw_all := lw_g (lw_at lw_m1 71 rfl) rfl
theorem q194 : (Jvm.Cond.soleField "TroughTreaty$Reader" "sort") ∈ lw_all := lw_g (lw_at lw_m1 72 rfl) rfl
theorem q195 : (Jvm.Cond.lays "TroughTreaty$Reader" "TroughTreaty$Reader" "value" "I") ∈ lw_all := lw_g (lw_at lw_m1 73 rfl) rfl
theorem q196 : (Jvm.Cond.soleField "TroughTreaty$Reader" "value") ∈ lw_all := lw_g (lw_at lw_m1 74 rfl) rfl
theorem q197 : (Jvm.Cond.lays "TroughTreaty$Reader" "TroughTreaty$Reader" "open" "I") ∈ lw_all := lw_g (lw_at lw_m1 75 rfl) rfl
theorem q198 : (Jvm.Cond.soleField "TroughTreaty$Reader" "open") ∈ lw_all := lw_g (lw_at lw_m1 76 rfl) rfl
theorem q199 : (Jvm.Cond.lays "TroughTreaty$Reader" "TroughTreaty$Reader" "told" "I") ∈ lw_all := lw_g (lw_at lw_m1 77 rfl) rfl
theorem q200 : (Jvm.Cond.soleField "TroughTreaty$Reader" "told") ∈ lw_all := lw_g (lw_at lw_m1 78 rfl) rfl
theorem q201 : (Jvm.Cond.lays "TroughTreaty$Reader" "TroughTreaty$Reader" "made" "LTroughTreaty$Road;") ∈ lw_all := lw_g (lw_at lw_m1 79 rfl) rfl
theorem q202 : (Jvm.Cond.soleField "TroughTreaty$Reader" "made") ∈ lw_all := lw_g (lw_at lw_m1 80 rfl) rfl
theorem q203 : (Jvm.Cond.laysFinal "TroughTreaty$Reader" "TroughTreaty$Reader" "this$0" "LTroughTreaty;") ∈ lw_all := lw_g (lw_at lw_m1 81 rfl) rfl
theorem q204 : (Jvm.Cond.soleField "TroughTreaty$Reader" "this$0") ∈ lw_all := lw_g (lw_at lw_m1 82 rfl) rfl
theorem q205 : (Jvm.Cond.superclass "TroughTreaty$Reader" "java/lang/Object") ∈ lw_all := lw_g (lw_at lw_m1 83 rfl) rfl
theorem q246 : (Jvm.Cond.fieldLinkNest "TroughTreaty$Reader" (118 : Nat) "TroughTreaty$Road" "troughs" "Ljava/util/ArrayList;" "TroughTreaty") ∈ lw_tbl := lw_at lw_m1 124 rfl
theorem q249 : (Jvm.Cond.fieldLinkNest "TroughTreaty$Reader" (126 : Nat) "TroughTreaty$Road" "horses" "Ljava/util/ArrayList;" "TroughTreaty") ∈ lw_tbl := lw_at lw_m1 127 rfl
theorem q252 : (Jvm.Cond.fieldLinkNest "TroughTreaty$Reader" (129 : Nat) "TroughTreaty$Road" "laps" "Ljava/util/ArrayList;" "TroughTreaty") ∈ lw_tbl := lw_at lw_m1 130 rfl
theorem q256 : (Jvm.Cond.fieldLinkNest "TroughTreaty$Reader" (173 : Nat) "TroughTreaty$Road" "laws" "[LTroughTreaty$Part;" "TroughTreaty") ∈ lw_tbl := lw_at lw_m1 134 rfl
theorem q258 : (Jvm.Cond.fieldLinkNest "TroughTreaty$Reader" (146 : Nat) "TroughTreaty$Road" "length" "I" "TroughTreaty") ∈ lw_tbl := lw_at lw_m1 136 rfl
theorem q261 : (Jvm.Cond.fieldLinkNest "TroughTreaty$Reader" (167 : Nat) "TroughTreaty$Road" "rain" "I" "TroughTreaty") ∈ lw_tbl := lw_at lw_m1 139 rfl
theorem q264 : (Jvm.Cond.fieldLinkNest "TroughTreaty$Reader" (170 : Nat) "TroughTreaty$Road" "seed" "I" "TroughTreaty") ∈ lw_tbl := lw_at lw_m1 142 rfl
theorem q265 : (Jvm.Cond.fieldLinkNest "TroughTreaty$Reader" (216 : Nat) "TroughTreaty$Road" "knots" "I" "TroughTreaty") ∈ lw_tbl := lw_at lw_m1 143 rfl
theorem q268 : (Jvm.Cond.fieldLinkNest "TroughTreaty$Reader" (136 : Nat) "TroughTreaty$Road" "lines" "I" "TroughTreaty") ∈ lw_tbl := lw_at lw_m1 146 rfl
theorem q428 : (Jvm.Cond.fieldLinkNest "TroughTreaty$Reader" (22 : Nat) "TroughTreaty" "tape" "[B" "TroughTreaty") ∈ lw_tbl := lw_at lw_m2 66 rfl
theorem q508 : (Jvm.Cond.instanceMethod ({ cls := "TroughTreaty$Reader", name := "read", desc := "(I)LTroughTreaty$Road;" } : Jvm.MethodName)) ∈ lw_all := lw_g (lw_at lw_m2 146 rfl) rfl
theorem q509 : (Jvm.Cond.selects "TroughTreaty$Reader" ({ cls := "TroughTreaty$Reader", name := "read", desc := "(I)LTroughTreaty$Road;" } : Jvm.MethodName) ({ cls := "TroughTreaty$Reader", name := "read", desc := "(I)LTroughTreaty$Road;" } : Jvm.MethodName)) ∈ lw_all := lw_g (lw_at lw_m2 147 rfl) rfl
theorem q510 : (Jvm.Cond.code ({ cls := "TroughTreaty$Reader", name := "read", desc := "(I)LTroughTreaty$Road;" } : Jvm.MethodName) prog_14_method_13_code (2 : Nat) (Option.some (Jvm.ClassFile.FieldType.object "TroughTreaty$Road"))) ∈ lw_all := lw_g (lw_at lw_m2 148 rfl) rfl
theorem q511 : (Jvm.Cond.classLink "TroughTreaty$Reader" (108 : Nat) "TroughTreaty$Road") ∈ lw_all := lw_g (lw_at lw_m2 149 rfl) rfl
theorem q512 : (Jvm.Cond.methodLinkNest "TroughTreaty$Reader" (110 : Nat) ({ cls := "TroughTreaty$Road", name := "<init>", desc := "()V" } : Jvm.MethodName) "TroughTreaty") ∈ lw_tbl := lw_at lw_m2 150 rfl
theorem q513 : (Jvm.Cond.methodLink "TroughTreaty$Reader" (93 : Nat) ({ cls := "TroughTreaty$Reader", name := "next", desc := "()V" } : Jvm.MethodName)) ∈ lw_all := lw_g (lw_at lw_m2 151 rfl) rfl
theorem q514 : (Jvm.Cond.privateMethod ({ cls := "TroughTreaty$Reader", name := "next", desc := "()V" } : Jvm.MethodName)) ∈ lw_tbl := lw_at lw_m2 152 rfl
theorem q515 : (Jvm.Cond.instanceMethod ({ cls := "TroughTreaty$Reader", name := "next", desc := "()V" } : Jvm.MethodName)) ∈ lw_all := lw_g (lw_at lw_m2 153 rfl) rfl
theorem q516 : (Jvm.Cond.code ({ cls := "TroughTreaty$Reader", name := "next", desc := "()V" } : Jvm.MethodName) prog_14_method_3_code (1 : Nat) (Option.none : Option Jvm.ClassFile.FieldType)) ∈ lw_all := lw_g (lw_at lw_m2 154 rfl) rfl
theorem q517 : (Jvm.Cond.methodLink "TroughTreaty$Reader" (26 : Nat) ({ cls := "TroughTreaty$Reader", name := "here", desc := "()I" } : Jvm.MethodName)) ∈ lw_all := lw_g (lw_at lw_m2 155 rfl) rfl
theorem q518 : (Jvm.Cond.privateMethod ({ cls := "TroughTreaty$Reader", name := "here", desc := "()I" } : Jvm.MethodName)) ∈ lw_tbl := lw_at lw_m2 156 rfl
theorem q519 : (Jvm.Cond.instanceMethod ({ cls := "TroughTreaty$Reader", name := "here", desc := "()I" } : Jvm.MethodName)) ∈ lw_all := lw_g (lw_at lw_m2 157 rfl) rfl
theorem q520 : (Jvm.Cond.code ({ cls := "TroughTreaty$Reader", name := "here", desc := "()I" } : Jvm.MethodName) prog_14_method_2_code (1 : Nat) (Option.some Jvm.ClassFile.FieldType.int)) ∈ lw_all := lw_g (lw_at lw_m2 158 rfl) rfl
theorem q521 : (Jvm.Cond.constantLong "TroughTreaty$Reader" (36 : Nat) (97 : Int64)) ∈ lw_all := lw_g (lw_at lw_m2 159 rfl) rfl
theorem q522 : (Jvm.Cond.constantLong "TroughTreaty$Reader" (38 : Nat) (122 : Int64)) ∈ lw_all := lw_g (lw_at lw_m2 160 rfl) rfl
theorem q523 : (Jvm.Cond.methodLinkNest "TroughTreaty$Reader" (40 : Nat) ({ cls := "TroughTreaty", name := "in", desc := "(JJJ)Z" } : Jvm.MethodName) "TroughTreaty") ∈ lw_tbl := lw_at lw_m2 161 rfl
theorem q524 : (Jvm.Cond.methodLink "TroughTreaty$Reader" (44 : Nat) ({ cls := "TroughTreaty$Reader", name := "word", desc := "()I" } : Jvm.MethodName)) ∈ lw_all := lw_g (lw_at lw_m2 162 rfl) rfl
theorem q525 : (Jvm.Cond.privateMethod ({ cls := "TroughTreaty$Reader", name := "word", desc := "()I" } : Jvm.MethodName)) ∈ lw_tbl := lw_at lw_m2 163 rfl
theorem q526 : (Jvm.Cond.instanceMethod ({ cls := "TroughTreaty$Reader", name := "word", desc := "()I" } : Jvm.MethodName)) ∈ lw_all := lw_g (lw_at lw_m2 164 rfl) rfl
theorem q527 : (Jvm.Cond.code ({ cls := "TroughTreaty$Reader", name := "word", desc := "()I" } : Jvm.MethodName) prog_14_method_5_code (3 : Nat) (Option.some Jvm.ClassFile.FieldType.int)) ∈ lw_all := lw_g (lw_at lw_m2 165 rfl) rfl
theorem q528 : (Jvm.Cond.fieldLinkNest "TroughTreaty$Reader" (69 : Nat) "TroughTreaty" "NAMES" "[Ljava/lang/String;" "TroughTreaty") ∈ lw_tbl := lw_at lw_m2 166 rfl
theorem q530 : (Jvm.Cond.methodLink "TroughTreaty$Reader" (73 : Nat) ({ cls := "java/lang/String", name := "length", desc := "()I" } : Jvm.MethodName)) ∈ lw_all := lw_g (lw_at lw_m2 168 rfl) rfl
theorem q540 : (Jvm.Cond.methodLink "TroughTreaty$Reader" (76 : Nat) ({ cls := "java/lang/String", name := "charAt", desc := "(I)C" } : Jvm.MethodName)) ∈ lw_all := lw_g (lw_at lw_m2 178 rfl) rfl
theorem q576 : (Jvm.Cond.methodLink "TroughTreaty$Reader" (50 : Nat) ({ cls := "TroughTreaty$Reader", name := "name", desc := "()V" } : Jvm.MethodName)) ∈ lw_all := lw_g (lw_at lw_m2 214 rfl) rfl
theorem q577 : (Jvm.Cond.privateMethod ({ cls := "TroughTreaty$Reader", name := "name", desc := "()V" } : Jvm.MethodName)) ∈ lw_tbl := lw_at lw_m2 215 rfl
theorem q578 : (Jvm.Cond.instanceMethod ({ cls := "TroughTreaty$Reader", name := "name", desc := "()V" } : Jvm.MethodName)) ∈ lw_all := lw_g (lw_at lw_m2 216 rfl) rfl
theorem q579 : (Jvm.Cond.code ({ cls := "TroughTreaty$Reader", name := "name", desc := "()V" } : Jvm.MethodName) prog_14_method_6_code (2 : Nat) (Option.none : Option Jvm.ClassFile.FieldType)) ∈ lw_all := lw_g (lw_at lw_m2 217 rfl) rfl
theorem q580 : (Jvm.Cond.constantLong "TroughTreaty$Reader" (53 : Nat) (48 : Int64)) ∈ lw_all := lw_g (lw_at lw_m2 218 rfl) rfl
theorem q581 : (Jvm.Cond.constantLong "TroughTreaty$Reader" (55 : Nat) (57 : Int64)) ∈ lw_all := lw_g (lw_at lw_m2 219 rfl) rfl
theorem q582 : (Jvm.Cond.constant "TroughTreaty$Reader" (57 : Nat) (99999 : Int32)) ∈ lw_all := lw_g (lw_at lw_m2 220 rfl) rfl
theorem q583 : (Jvm.Cond.methodLink "TroughTreaty$Reader" (58 : Nat) ({ cls := "TroughTreaty$Reader", name := "sign", desc := "()V" } : Jvm.MethodName)) ∈ lw_all := lw_g (lw_at lw_m2 221 rfl) rfl
theorem q584 : (Jvm.Cond.privateMethod ({ cls := "TroughTreaty$Reader", name := "sign", desc := "()V" } : Jvm.MethodName)) ∈ lw_tbl := lw_at lw_m2 222 rfl
theorem q585 : (Jvm.Cond.instanceMethod ({ cls := "TroughTreaty$Reader", name := "sign", desc := "()V" } : Jvm.MethodName)) ∈ lw_all := lw_g (lw_at lw_m2 223 rfl) rfl
theorem q586 : (Jvm.Cond.code ({ cls := "TroughTreaty$Reader", name := "sign", desc := "()V" } : Jvm.MethodName) prog_14_method_4_code (2 : Nat) (Option.none : Option Jvm.ClassFile.FieldType)) ∈ lw_all := lw_g (lw_at lw_m2 224 rfl) rfl
theorem q587 : (Jvm.Cond.stringRef "TroughTreaty$Reader" (61 : Nat) ";()+-*/<=>") ∈ lw_tbl := lw_at lw_m2 225 rfl
theorem q588 : (Jvm.Cond.methodLink "TroughTreaty$Reader" (63 : Nat) ({ cls := "java/lang/String", name := "indexOf", desc := "(I)I" } : Jvm.MethodName)) ∈ lw_all := lw_g (lw_at lw_m2 226 rfl) rfl
theorem q647 : (Jvm.Cond.methodLink "TroughTreaty$Reader" (115 : Nat) ({ cls := "TroughTreaty$Reader", name := "line", desc := "()V" } : Jvm.MethodName)) ∈ lw_all := lw_g (lw_at lw_m3 45 rfl) rfl
theorem q648 : (Jvm.Cond.privateMethod ({ cls := "TroughTreaty$Reader", name := "line", desc := "()V" } : Jvm.MethodName)) ∈ lw_tbl := lw_at lw_m3 46 rfl
theorem q649 : (Jvm.Cond.instanceMethod ({ cls := "TroughTreaty$Reader", name := "line", desc := "()V" } : Jvm.MethodName)) ∈ lw_all := lw_g (lw_at lw_m3 47 rfl) rfl
theorem q650 : (Jvm.Cond.code ({ cls := "TroughTreaty$Reader", name := "line", desc := "()V" } : Jvm.MethodName) prog_14_method_15_code (5 : Nat) (Option.none : Option Jvm.ClassFile.FieldType)) ∈ lw_all := lw_g (lw_at lw_m3 48 rfl) rfl
theorem q651 : (Jvm.Cond.methodLink "TroughTreaty$Reader" (132 : Nat) ({ cls := "TroughTreaty$Reader", name := "isWord", desc := "(II)Z" } : Jvm.MethodName)) ∈ lw_all := lw_g (lw_at lw_m3 49 rfl) rfl
theorem q652 : (Jvm.Cond.privateMethod ({ cls := "TroughTreaty$Reader", name := "isWord", desc := "(II)Z" } : Jvm.MethodName)) ∈ lw_tbl := lw_at lw_m3 50 rfl
theorem q653 : (Jvm.Cond.instanceMethod ({ cls := "TroughTreaty$Reader", name := "isWord", desc := "(II)Z" } : Jvm.MethodName)) ∈ lw_all := lw_g (lw_at lw_m3 51 rfl) rfl
theorem q654 : (Jvm.Cond.code ({ cls := "TroughTreaty$Reader", name := "isWord", desc := "(II)Z" } : Jvm.MethodName) prog_14_method_8_code (3 : Nat) (Option.some Jvm.ClassFile.FieldType.boolean)) ∈ lw_all := lw_g (lw_at lw_m3 52 rfl) rfl
theorem q655 : (Jvm.Cond.methodLink "TroughTreaty$Reader" (85 : Nat) ({ cls := "TroughTreaty$Reader", name := "wrong", desc := "(I)LTroughTreaty$Fault;" } : Jvm.MethodName)) ∈ lw_all := lw_g (lw_at lw_m3 53 rfl) rfl
theorem q656 : (Jvm.Cond.privateMethod ({ cls := "TroughTreaty$Reader", name := "wrong", desc := "(I)LTroughTreaty$Fault;" } : Jvm.MethodName)) ∈ lw_tbl := lw_at lw_m3 54 rfl
theorem q657 : (Jvm.Cond.instanceMethod ({ cls := "TroughTreaty$Reader", name := "wrong", desc := "(I)LTroughTreaty$Fault;" } : Jvm.MethodName)) ∈ lw_all := lw_g (lw_at lw_m3 55 rfl) rfl
theorem q658 : (Jvm.Cond.code ({ cls := "TroughTreaty$Reader", name := "wrong", desc := "(I)LTroughTreaty$Fault;" } : Jvm.MethodName) prog_14_method_7_code (2 : Nat) (Option.some (Jvm.ClassFile.FieldType.object "TroughTreaty$Fault"))) ∈ lw_all := lw_g (lw_at lw_m3 56 rfl) rfl
theorem q659 : (Jvm.Cond.classLink "TroughTreaty$Reader" (80 : Nat) "TroughTreaty$Fault") ∈ lw_all := lw_g (lw_at lw_m3 57 rfl) rfl
theorem q700 : (Jvm.Cond.methodLink "TroughTreaty$Reader" (82 : Nat) ({ cls := "TroughTreaty$Fault", name := "<init>", desc := "(II)V" } : Jvm.MethodName)) ∈ lw_all := lw_g (lw_at lw_m3 98 rfl) rfl
theorem q730 : (Jvm.Cond.methodLink "TroughTreaty$Reader" (139 : Nat) ({ cls := "TroughTreaty$Reader", name := "isFull", desc := "(I)Z" } : Jvm.MethodName)) ∈ lw_all := lw_g (lw_at lw_m3 128 rfl) rfl
theorem q731 : (Jvm.Cond.privateMethod ({ cls := "TroughTreaty$Reader", name := "isFull", desc := "(I)Z" } : Jvm.MethodName)) ∈ lw_tbl := lw_at lw_m3 129 rfl
theorem q732 : (Jvm.Cond.instanceMethod ({ cls := "TroughTreaty$Reader", name := "isFull", desc := "(I)Z" } : Jvm.MethodName)) ∈ lw_all := lw_g (lw_at lw_m3 130 rfl) rfl
theorem q733 : (Jvm.Cond.code ({ cls := "TroughTreaty$Reader", name := "isFull", desc := "(I)Z" } : Jvm.MethodName) prog_14_method_14_code (2 : Nat) (Option.some Jvm.ClassFile.FieldType.boolean)) ∈ lw_all := lw_g (lw_at lw_m3 131 rfl) rfl
theorem q734 : (Jvm.Cond.methodLink "TroughTreaty$Reader" (122 : Nat) ({ cls := "java/util/ArrayList", name := "size", desc := "()I" } : Jvm.MethodName)) ∈ lw_all := lw_g (lw_at lw_m3 132 rfl) rfl
theorem q735 : (Jvm.Cond.methodLink "TroughTreaty$Reader" (143 : Nat) ({ cls := "TroughTreaty$Reader", name := "number", desc := "(II)I" } : Jvm.MethodName)) ∈ lw_all := lw_g (lw_at lw_m3 133 rfl) rfl
theorem q736 : (Jvm.Cond.privateMethod ({ cls := "TroughTreaty$Reader", name := "number", desc := "(II)I" } : Jvm.MethodName)) ∈ lw_tbl := lw_at lw_m3 134 rfl
theorem q737 : (Jvm.Cond.instanceMethod ({ cls := "TroughTreaty$Reader", name := "number", desc := "(II)I" } : Jvm.MethodName)) ∈ lw_all := lw_g (lw_at lw_m3 135 rfl) rfl
theorem q738 : (Jvm.Cond.code ({ cls := "TroughTreaty$Reader", name := "number", desc := "(II)I" } : Jvm.MethodName) prog_14_method_11_code (4 : Nat) (Option.some Jvm.ClassFile.FieldType.int)) ∈ lw_all := lw_g (lw_at lw_m3 136 rfl) rfl
theorem q739 : (Jvm.Cond.methodLink "TroughTreaty$Reader" (89 : Nat) ({ cls := "TroughTreaty$Reader", name := "numberAtHand", desc := "(II)I" } : Jvm.MethodName)) ∈ lw_all := lw_g (lw_at lw_m3 137 rfl) rfl
theorem q740 : (Jvm.Cond.privateMethod ({ cls := "TroughTreaty$Reader", name := "numberAtHand", desc := "(II)I" } : Jvm.MethodName)) ∈ lw_tbl := lw_at lw_m3 138 rfl
theorem q741 : (Jvm.Cond.instanceMethod ({ cls := "TroughTreaty$Reader", name := "numberAtHand", desc := "(II)I" } : Jvm.MethodName)) ∈ lw_all := lw_g (lw_at lw_m3 139 rfl) rfl
theorem q742 : (Jvm.Cond.code ({ cls := "TroughTreaty$Reader", name := "numberAtHand", desc := "(II)I" } : Jvm.MethodName) prog_14_method_10_code (3 : Nat) (Option.some Jvm.ClassFile.FieldType.int)) ∈ lw_all := lw_g (lw_at lw_m3 140 rfl) rfl
theorem q743 : (Jvm.Cond.methodLink "TroughTreaty$Reader" (148 : Nat) ({ cls := "TroughTreaty$Reader", name := "trough", desc := "()V" } : Jvm.MethodName)) ∈ lw_all := lw_g (lw_at lw_m3 141 rfl) rfl
theorem q744 : (Jvm.Cond.privateMethod ({ cls := "TroughTreaty$Reader", name := "trough", desc := "()V" } : Jvm.MethodName)) ∈ lw_tbl := lw_at lw_m3 142 rfl
theorem q745 : (Jvm.Cond.instanceMethod ({ cls := "TroughTreaty$Reader", name := "trough", desc := "()V" } : Jvm.MethodName)) ∈ lw_all := lw_g (lw_at lw_m3 143 rfl) rfl
theorem q746 : (Jvm.Cond.code ({ cls := "TroughTreaty$Reader", name := "trough", desc := "()V" } : Jvm.MethodName) prog_14_method_17_code (2 : Nat) (Option.none : Option Jvm.ClassFile.FieldType)) ∈ lw_all := lw_g (lw_at lw_m3 144 rfl) rfl
theorem q747 : (Jvm.Cond.classLink "TroughTreaty$Reader" (184 : Nat) "TroughTreaty$Trough") ∈ lw_all := lw_g (lw_at lw_m3 145 rfl) rfl
theorem q749 : (Jvm.Cond.methodLink "TroughTreaty$Reader" (186 : Nat) ({ cls := "TroughTreaty$Reader", name := "fresh", desc := "(Ljava/util/ArrayList;)I" } : Jvm.MethodName)) ∈ lw_all := lw_g (lw_at lw_m3 147 rfl) rfl
theorem q750 : (Jvm.Cond.privateMethod ({ cls := "TroughTreaty$Reader", name := "fresh", desc := "(Ljava/util/ArrayList;)I" } : Jvm.MethodName)) ∈ lw_tbl := lw_at lw_m3 148 rfl
theorem q751 : (Jvm.Cond.instanceMethod ({ cls := "TroughTreaty$Reader", name := "fresh", desc := "(Ljava/util/ArrayList;)I" } : Jvm.MethodName)) ∈ lw_all := lw_g (lw_at lw_m3 149 rfl) rfl
theorem q752 : (Jvm.Cond.code ({ cls := "TroughTreaty$Reader", name := "fresh", desc := "(Ljava/util/ArrayList;)I" } : Jvm.MethodName) prog_14_method_12_code (3 : Nat) (Option.some Jvm.ClassFile.FieldType.int)) ∈ lw_all := lw_g (lw_at lw_m3 150 rfl) rfl
theorem q753 : (Jvm.Cond.methodLink "TroughTreaty$Reader" (96 : Nat) ({ cls := "TroughTreaty$Named", name := "find", desc := "(Ljava/util/ArrayList;I)I" } : Jvm.MethodName)) ∈ lw_all := lw_g (lw_at lw_m3 151 rfl) rfl
theorem q759 : (Jvm.Cond.methodLink "TroughTreaty$Reader" (189 : Nat) ({ cls := "TroughTreaty$Trough", name := "<init>", desc := "(I)V" } : Jvm.MethodName)) ∈ lw_all := lw_g (lw_at lw_m3 157 rfl) rfl
theorem q770 : (Jvm.Cond.fieldLinkNest "TroughTreaty$Reader" (197 : Nat) "TroughTreaty$Trough" "water" "I" "TroughTreaty") ∈ lw_tbl := lw_at lw_m3 168 rfl
theorem q772 : (Jvm.Cond.fieldLinkNest "TroughTreaty$Reader" (200 : Nat) "TroughTreaty$Trough" "fill" "I" "TroughTreaty") ∈ lw_tbl := lw_at lw_m3 170 rfl
theorem q779 : (Jvm.Cond.fieldLink "TroughTreaty$Reader" (196 : Nat) "TroughTreaty$Trough" "place" "I") ∈ lw_all := lw_g (lw_at lw_m3 177 rfl) rfl
theorem q780 : (Jvm.Cond.fieldLink "TroughTreaty$Reader" (209 : Nat) "TroughTreaty$Horse" "place" "I") ∈ lw_all := lw_g (lw_at lw_m3 178 rfl) rfl
theorem q792 : (Jvm.Cond.methodLink "TroughTreaty$Reader" (192 : Nat) ({ cls := "TroughTreaty$Placed", name := "at", desc := "(Ljava/util/ArrayList;I)I" } : Jvm.MethodName)) ∈ lw_all := lw_g (lw_at lw_m3 190 rfl) rfl
theorem q798 : (Jvm.Cond.methodLink "TroughTreaty$Reader" (163 : Nat) ({ cls := "java/util/ArrayList", name := "add", desc := "(Ljava/lang/Object;)Z" } : Jvm.MethodName)) ∈ lw_all := lw_g (lw_at lw_m3 196 rfl) rfl
theorem q838 : (Jvm.Cond.selects "TroughTreaty$Reader" ({ cls := "java/lang/Object", name := "getClass", desc := "()Ljava/lang/Class;" } : Jvm.MethodName) ({ cls := "java/lang/Object", name := "getClass", desc := "()Ljava/lang/Class;" } : Jvm.MethodName)) ∈ lw_all := lw_g (lw_at lw_m3 236 rfl) rfl
theorem q862 : (Jvm.Cond.methodLink "TroughTreaty$Reader" (151 : Nat) ({ cls := "TroughTreaty$Reader", name := "horse", desc := "()V" } : Jvm.MethodName)) ∈ lw_all := lw_g (lw_at lw_m4 20 rfl) rfl
theorem q863 : (Jvm.Cond.privateMethod ({ cls := "TroughTreaty$Reader", name := "horse", desc := "()V" } : Jvm.MethodName)) ∈ lw_tbl := lw_at lw_m4 21 rfl
theorem q864 : (Jvm.Cond.instanceMethod ({ cls := "TroughTreaty$Reader", name := "horse", desc := "()V" } : Jvm.MethodName)) ∈ lw_all := lw_g (lw_at lw_m4 22 rfl) rfl
theorem q865 : (Jvm.Cond.code ({ cls := "TroughTreaty$Reader", name := "horse", desc := "()V" } : Jvm.MethodName) prog_14_method_18_code (2 : Nat) (Option.none : Option Jvm.ClassFile.FieldType)) ∈ lw_all := lw_g (lw_at lw_m4 23 rfl) rfl
theorem q866 : (Jvm.Cond.classLink "TroughTreaty$Reader" (203 : Nat) "TroughTreaty$Horse") ∈ lw_all := lw_g (lw_at lw_m4 24 rfl) rfl
theorem q868 : (Jvm.Cond.methodLink "TroughTreaty$Reader" (205 : Nat) ({ cls := "TroughTreaty$Horse", name := "<init>", desc := "(I)V" } : Jvm.MethodName)) ∈ lw_all := lw_g (lw_at lw_m4 26 rfl) rfl
theorem q873 : (Jvm.Cond.fieldLinkNest "TroughTreaty$Reader" (206 : Nat) "TroughTreaty$Horse" "side" "I" "TroughTreaty") ∈ lw_tbl := lw_at lw_m4 31 rfl
theorem q876 : (Jvm.Cond.fieldLinkNest "TroughTreaty$Reader" (210 : Nat) "TroughTreaty$Horse" "thirst" "I" "TroughTreaty") ∈ lw_tbl := lw_at lw_m4 34 rfl
theorem q878 : (Jvm.Cond.fieldLinkNest "TroughTreaty$Reader" (213 : Nat) "TroughTreaty$Horse" "pace" "I" "TroughTreaty") ∈ lw_tbl := lw_at lw_m4 36 rfl
theorem q889 : (Jvm.Cond.methodLink "TroughTreaty$Reader" (154 : Nat) ({ cls := "TroughTreaty$Reader", name := "ahead", desc := "(Ljava/util/ArrayList;)I" } : Jvm.MethodName)) ∈ lw_all := lw_g (lw_at lw_m4 47 rfl) rfl
theorem q890 : (Jvm.Cond.privateMethod ({ cls := "TroughTreaty$Reader", name := "ahead", desc := "(Ljava/util/ArrayList;)I" } : Jvm.MethodName)) ∈ lw_tbl := lw_at lw_m4 48 rfl
theorem q891 : (Jvm.Cond.instanceMethod ({ cls := "TroughTreaty$Reader", name := "ahead", desc := "(Ljava/util/ArrayList;)I" } : Jvm.MethodName)) ∈ lw_all := lw_g (lw_at lw_m4 49 rfl) rfl
theorem q892 : (Jvm.Cond.code ({ cls := "TroughTreaty$Reader", name := "ahead", desc := "(Ljava/util/ArrayList;)I" } : Jvm.MethodName) prog_14_method_16_code (3 : Nat) (Option.some Jvm.ClassFile.FieldType.int)) ∈ lw_all := lw_g (lw_at lw_m4 50 rfl) rfl
theorem q893 : (Jvm.Cond.classLink "TroughTreaty$Reader" (158 : Nat) "TroughTreaty$Lap") ∈ lw_all := lw_g (lw_at lw_m4 51 rfl) rfl
theorem q895 : (Jvm.Cond.methodLink "TroughTreaty$Reader" (160 : Nat) ({ cls := "TroughTreaty$Lap", name := "<init>", desc := "(III)V" } : Jvm.MethodName)) ∈ lw_all := lw_g (lw_at lw_m4 53 rfl) rfl
theorem q912 : (Jvm.Cond.methodLink "TroughTreaty$Reader" (177 : Nat) ({ cls := "TroughTreaty$Reader", name := "or", desc := "()LTroughTreaty$Part;" } : Jvm.MethodName)) ∈ lw_all := lw_g (lw_at lw_m4 70 rfl) rfl
theorem q913 : (Jvm.Cond.privateMethod ({ cls := "TroughTreaty$Reader", name := "or", desc := "()LTroughTreaty$Part;" } : Jvm.MethodName)) ∈ lw_tbl := lw_at lw_m4 71 rfl
theorem q914 : (Jvm.Cond.instanceMethod ({ cls := "TroughTreaty$Reader", name := "or", desc := "()LTroughTreaty$Part;" } : Jvm.MethodName)) ∈ lw_all := lw_g (lw_at lw_m4 72 rfl) rfl
theorem q915 : (Jvm.Cond.code ({ cls := "TroughTreaty$Reader", name := "or", desc := "()LTroughTreaty$Part;" } : Jvm.MethodName) prog_14_method_20_code (3 : Nat) (Option.some (Jvm.ClassFile.FieldType.object "TroughTreaty$Part"))) ∈ lw_all := lw_g (lw_at lw_m4 73 rfl) rfl
theorem q916 : (Jvm.Cond.methodLink "TroughTreaty$Reader" (219 : Nat) ({ cls := "TroughTreaty$Reader", name := "and", desc := "()LTroughTreaty$Part;" } : Jvm.MethodName)) ∈ lw_all := lw_g (lw_at lw_m4 74 rfl) rfl
theorem q917 : (Jvm.Cond.privateMethod ({ cls := "TroughTreaty$Reader", name := "and", desc := "()LTroughTreaty$Part;" } : Jvm.MethodName)) ∈ lw_tbl := lw_at lw_m4 75 rfl
theorem q918 : (Jvm.Cond.instanceMethod ({ cls := "TroughTreaty$Reader", name := "and", desc := "()LTroughTreaty$Part;" } : Jvm.MethodName)) ∈ lw_all := lw_g (lw_at lw_m4 76 rfl) rfl
theorem q919 : (Jvm.Cond.code ({ cls := "TroughTreaty$Reader", name := "and", desc := "()LTroughTreaty$Part;" } : Jvm.MethodName) prog_14_method_21_code (3 : Nat) (Option.some (Jvm.ClassFile.FieldType.object "TroughTreaty$Part"))) ∈ lw_all := lw_g (lw_at lw_m4 77 rfl) rfl
theorem q920 : (Jvm.Cond.methodLink "TroughTreaty$Reader" (230 : Nat) ({ cls := "TroughTreaty$Reader", name := "not", desc := "()LTroughTreaty$Part;" } : Jvm.MethodName)) ∈ lw_all := lw_g (lw_at lw_m4 78 rfl) rfl
theorem q921 : (Jvm.Cond.privateMethod ({ cls := "TroughTreaty$Reader", name := "not", desc := "()LTroughTreaty$Part;" } : Jvm.MethodName)) ∈ lw_tbl := lw_at lw_m4 79 rfl
theorem q922 : (Jvm.Cond.instanceMethod ({ cls := "TroughTreaty$Reader", name := "not", desc := "()LTroughTreaty$Part;" } : Jvm.MethodName)) ∈ lw_all := lw_g (lw_at lw_m4 80 rfl) rfl
theorem q923 : (Jvm.Cond.code ({ cls := "TroughTreaty$Reader", name := "not", desc := "()LTroughTreaty$Part;" } : Jvm.MethodName) prog_14_method_22_code (1 : Nat) (Option.some (Jvm.ClassFile.FieldType.object "TroughTreaty$Part"))) ∈ lw_all := lw_g (lw_at lw_m4 81 rfl) rfl
theorem q924 : (Jvm.Cond.methodLink "TroughTreaty$Reader" (233 : Nat) ({ cls := "TroughTreaty$Reader", name := "compare", desc := "()LTroughTreaty$Part;" } : Jvm.MethodName)) ∈ lw_all := lw_g (lw_at lw_m4 82 rfl) rfl
theorem q925 : (Jvm.Cond.privateMethod ({ cls := "TroughTreaty$Reader", name := "compare", desc := "()LTroughTreaty$Part;" } : Jvm.MethodName)) ∈ lw_tbl := lw_at lw_m4 83 rfl
theorem q926 : (Jvm.Cond.instanceMethod ({ cls := "TroughTreaty$Reader", name := "compare", desc := "()LTroughTreaty$Part;" } : Jvm.MethodName)) ∈ lw_all := lw_g (lw_at lw_m4 84 rfl) rfl
theorem q927 : (Jvm.Cond.code ({ cls := "TroughTreaty$Reader", name := "compare", desc := "()LTroughTreaty$Part;" } : Jvm.MethodName) prog_14_method_23_code (3 : Nat) (Option.some (Jvm.ClassFile.FieldType.object "TroughTreaty$Part"))) ∈ lw_all := lw_g (lw_at lw_m4 85 rfl) rfl
theorem q928 : (Jvm.Cond.methodLink "TroughTreaty$Reader" (241 : Nat) ({ cls := "TroughTreaty$Reader", name := "sum", desc := "()LTroughTreaty$Part;" } : Jvm.MethodName)) ∈ lw_all := lw_g (lw_at lw_m4 86 rfl) rfl
theorem q929 : (Jvm.Cond.privateMethod ({ cls := "TroughTreaty$Reader", name := "sum", desc := "()LTroughTreaty$Part;" } : Jvm.MethodName)) ∈ lw_tbl := lw_at lw_m4 87 rfl
theorem q930 : (Jvm.Cond.instanceMethod ({ cls := "TroughTreaty$Reader", name := "sum", desc := "()LTroughTreaty$Part;" } : Jvm.MethodName)) ∈ lw_all := lw_g (lw_at lw_m4 88 rfl) rfl
theorem q931 : (Jvm.Cond.code ({ cls := "TroughTreaty$Reader", name := "sum", desc := "()LTroughTreaty$Part;" } : Jvm.MethodName) prog_14_method_24_code (3 : Nat) (Option.some (Jvm.ClassFile.FieldType.object "TroughTreaty$Part"))) ∈ lw_all := lw_g (lw_at lw_m4 89 rfl) rfl
theorem q932 : (Jvm.Cond.methodLink "TroughTreaty$Reader" (244 : Nat) ({ cls := "TroughTreaty$Reader", name := "product", desc := "()LTroughTreaty$Part;" } : Jvm.MethodName)) ∈ lw_all := lw_g (lw_at lw_m4 90 rfl) rfl
theorem q933 : (Jvm.Cond.privateMethod ({ cls := "TroughTreaty$Reader", name := "product", desc := "()LTroughTreaty$Part;" } : Jvm.MethodName)) ∈ lw_tbl := lw_at lw_m4 91 rfl
theorem q934 : (Jvm.Cond.instanceMethod ({ cls := "TroughTreaty$Reader", name := "product", desc := "()LTroughTreaty$Part;" } : Jvm.MethodName)) ∈ lw_all := lw_g (lw_at lw_m4 92 rfl) rfl
theorem q935 : (Jvm.Cond.code ({ cls := "TroughTreaty$Reader", name := "product", desc := "()LTroughTreaty$Part;" } : Jvm.MethodName) prog_14_method_25_code (3 : Nat) (Option.some (Jvm.ClassFile.FieldType.object "TroughTreaty$Part"))) ∈ lw_all := lw_g (lw_at lw_m4 93 rfl) rfl
theorem q936 : (Jvm.Cond.methodLink "TroughTreaty$Reader" (247 : Nat) ({ cls := "TroughTreaty$Reader", name := "one", desc := "()LTroughTreaty$Part;" } : Jvm.MethodName)) ∈ lw_all := lw_g (lw_at lw_m4 94 rfl) rfl
theorem q937 : (Jvm.Cond.privateMethod ({ cls := "TroughTreaty$Reader", name := "one", desc := "()LTroughTreaty$Part;" } : Jvm.MethodName)) ∈ lw_tbl := lw_at lw_m4 95 rfl
theorem q938 : (Jvm.Cond.instanceMethod ({ cls := "TroughTreaty$Reader", name := "one", desc := "()LTroughTreaty$Part;" } : Jvm.MethodName)) ∈ lw_all := lw_g (lw_at lw_m4 96 rfl) rfl
theorem q939 : (Jvm.Cond.code ({ cls := "TroughTreaty$Reader", name := "one", desc := "()LTroughTreaty$Part;" } : Jvm.MethodName) prog_14_method_26_code (2 : Nat) (Option.some (Jvm.ClassFile.FieldType.object "TroughTreaty$Part"))) ∈ lw_all := lw_g (lw_at lw_m4 97 rfl) rfl
theorem q940 : (Jvm.Cond.methodLink "TroughTreaty$Reader" (181 : Nat) ({ cls := "TroughTreaty$Reader", name := "isSign", desc := "(I)Z" } : Jvm.MethodName)) ∈ lw_all := lw_g (lw_at lw_m4 98 rfl) rfl
theorem q941 : (Jvm.Cond.privateMethod ({ cls := "TroughTreaty$Reader", name := "isSign", desc := "(I)Z" } : Jvm.MethodName)) ∈ lw_tbl := lw_at lw_m4 99 rfl
theorem q942 : (Jvm.Cond.instanceMethod ({ cls := "TroughTreaty$Reader", name := "isSign", desc := "(I)Z" } : Jvm.MethodName)) ∈ lw_all := lw_g (lw_at lw_m4 100 rfl) rfl
theorem q943 : (Jvm.Cond.code ({ cls := "TroughTreaty$Reader", name := "isSign", desc := "(I)Z" } : Jvm.MethodName) prog_14_method_9_code (2 : Nat) (Option.some Jvm.ClassFile.FieldType.boolean)) ∈ lw_all := lw_g (lw_at lw_m4 101 rfl) rfl
theorem q944 : (Jvm.Cond.classLink "TroughTreaty$Reader" (250 : Nat) "TroughTreaty$Number") ∈ lw_all := lw_g (lw_at lw_m4 102 rfl) rfl
theorem q946 : (Jvm.Cond.methodLink "TroughTreaty$Reader" (222 : Nat) ({ cls := "TroughTreaty$Reader", name := "knot", desc := "()I" } : Jvm.MethodName)) ∈ lw_all := lw_g (lw_at lw_m4 104 rfl) rfl
theorem q947 : (Jvm.Cond.privateMethod ({ cls := "TroughTreaty$Reader", name := "knot", desc := "()I" } : Jvm.MethodName)) ∈ lw_tbl := lw_at lw_m4 105 rfl
theorem q948 : (Jvm.Cond.instanceMethod ({ cls := "TroughTreaty$Reader", name := "knot", desc := "()I" } : Jvm.MethodName)) ∈ lw_all := lw_g (lw_at lw_m4 106 rfl) rfl
theorem q949 : (Jvm.Cond.code ({ cls := "TroughTreaty$Reader", name := "knot", desc := "()I" } : Jvm.MethodName) prog_14_method_19_code (2 : Nat) (Option.some Jvm.ClassFile.FieldType.int)) ∈ lw_all := lw_g (lw_at lw_m4 107 rfl) rfl
theorem q950 : (Jvm.Cond.methodLink "TroughTreaty$Reader" (252 : Nat) ({ cls := "TroughTreaty$Number", name := "<init>", desc := "(I)V" } : Jvm.MethodName)) ∈ lw_all := lw_g (lw_at lw_m4 108 rfl) rfl
theorem q961 : (Jvm.Cond.classLink "TroughTreaty$Reader" (253 : Nat) "TroughTreaty$Name") ∈ lw_all := lw_g (lw_at lw_m4 119 rfl) rfl
theorem q963 : (Jvm.Cond.methodLink "TroughTreaty$Reader" (255 : Nat) ({ cls := "TroughTreaty$Name", name := "<init>", desc := "(I)V" } : Jvm.MethodName)) ∈ lw_all := lw_g (lw_at lw_m4 121 rfl) rfl
theorem q971 : (Jvm.Cond.classLink "TroughTreaty$Reader" (225 : Nat) "TroughTreaty$Two") ∈ lw_all := lw_g (lw_at lw_m4 129 rfl) rfl
theorem q973 : (Jvm.Cond.methodLink "TroughTreaty$Reader" (227 : Nat) ({ cls := "TroughTreaty$Two", name := "<init>", desc := "(ILTroughTreaty$Part;LTroughTreaty$Part;)V" } : Jvm.MethodName)) ∈ lw_all := lw_g (lw_at lw_m4 131 rfl) rfl
theorem q992 : (Jvm.Cond.classLink "TroughTreaty$Reader" (236 : Nat) "TroughTreaty$Not") ∈ lw_all := lw_g (lw_at lw_m4 150 rfl) rfl
theorem q994 : (Jvm.Cond.methodLink "TroughTreaty$Reader" (238 : Nat) ({ cls := "TroughTreaty$Not", name := "<init>", desc := "(LTroughTreaty$Part;)V" } : Jvm.MethodName)) ∈ lw_all := lw_g (lw_at lw_m4 152 rfl) rfl
theorem q2275 : (Jvm.Cond.castable "TroughTreaty$Reader" "java/lang/Object") ∈ lw_tbl := lw_at lw_m9 233 rfl
theorem in_X2 : ∀ w ∈ wsX20, w ∈ lw_all := lw_in wsX20 [187, 189, 191, 193, 195, 197, 199, 201, 203] (by decide +kernel) (by decide +kernel)

/-! TroughTreaty$Road -/
set_option maxRecDepth 100000
def RX3 : String := "TroughTreaty$Road"
def TX3 : u_T := fun k => match k with
  | 0 => ("TroughTreaty$Road", "troughs", "Ljava/util/ArrayList;", true)
  | 1 => ("TroughTreaty$Road", "horses", "Ljava/util/ArrayList;", true)
  | 2 => ("TroughTreaty$Road", "laps", "Ljava/util/ArrayList;", true)
  | 3 => ("TroughTreaty$Road", "laws", "[LTroughTreaty$Part;", true)
  | 4 => ("TroughTreaty$Road", "length", "I", false)
  | 5 => ("TroughTreaty$Road", "rain", "I", false)
  | 6 => ("TroughTreaty$Road", "seed", "I", false)
  | 7 => ("TroughTreaty$Road", "knots", "I", false)
  | _ => ("TroughTreaty$Road", "lines", "I", false)
def tyX3 : Nat → FieldType := fun k => match k with
  | 0 => .object "java/util/ArrayList"
  | 1 => .object "java/util/ArrayList"
  | 2 => .object "java/util/ArrayList"
  | 3 => .array (.object "TroughTreaty$Part")
  | 4 => .int
  | 5 => .int
  | 6 => .int
  | 7 => .int
  | _ => .int
abbrev wsX30 : List Cond := u_ws RX3 TX3 9
theorem nmX3 : ∀ a, a < 9 → ∀ b, b < 9 → a ≠ b → (TX3 a).2.1 ≠ (TX3 b).2.1 := by decide +kernel
theorem tyX3_ok : ∀ k, k < 9 → parseFieldDescriptor (TX3 k).2.2.1 = some (tyX3 k) := by decide +kernel
abbrev cX3_init : ByteArray := prog_15_method_1_code
def yX3_init : MethodName := ⟨RX3, "<init>", "()V"⟩
def dkwX3_init_2 : List UInt8 := [181, 0, 28, 42, 16, 20, 181, 0, 32, 177]
abbrev dktX3_init_2 : List UInt8 := dkwX3_init_2 ++ []
def dkwX3_init_1 : List UInt8 := [183, 0, 11, 181, 0, 20, 42, 187, 0, 9, 89, 16, 12, 183, 0, 11, 181, 0, 23, 42, 6, 189, 0, 26]
abbrev dktX3_init_1 : List UInt8 := dkwX3_init_1 ++ dktX3_init_2
def dkwX3_init_0 : List UInt8 := [42, 183, 0, 3, 42, 187, 0, 9, 89, 16, 6, 183, 0, 11, 181, 0, 14, 42, 187, 0, 9, 89, 16, 6]
abbrev dktX3_init_0 : List UInt8 := dkwX3_init_0 ++ dktX3_init_1
theorem dksX3_init_0 : cX3_init.data.toList.drop 0 = dktX3_init_0 := by decide +kernel
theorem dksX3_init_1 : cX3_init.data.toList.drop 24 = dktX3_init_1 := dk_seg dksX3_init_0 24 rfl rfl
theorem dksX3_init_2 : cX3_init.data.toList.drop 48 = dktX3_init_2 := dk_seg dksX3_init_1 24 rfl rfl
theorem dX3_init_0 : decode cX3_init 0 = .ok (.aload_n 0, 1) := dk_42 (dk_at dksX3_init_0 0 rfl rfl)
theorem dX3_init_1 : decode cX3_init 1 = .ok (.invokespecial 3, 3) := dk_183 0 3 (dk_at dksX3_init_0 1 rfl rfl)
theorem dX3_init_4 : decode cX3_init 4 = .ok (.aload_n 0, 1) := dk_42 (dk_at dksX3_init_0 4 rfl rfl)
theorem dX3_init_5 : decode cX3_init 5 = .ok (.new 9, 3) := dk_187 0 9 (dk_at dksX3_init_0 5 rfl rfl)
theorem dX3_init_8 : decode cX3_init 8 = .ok (.dup, 1) := dk_89 (dk_at dksX3_init_0 8 rfl rfl)
theorem dX3_init_9 : decode cX3_init 9 = .ok (.bipush 6, 2) := dk_16 6 (dk_at dksX3_init_0 9 rfl rfl)
theorem dX3_init_11 : decode cX3_init 11 = .ok (.invokespecial 11, 3) := dk_183 0 11 (dk_at dksX3_init_0 11 rfl rfl)
theorem dX3_init_14 : decode cX3_init 14 = .ok (.putfield 14, 3) := dk_181 0 14 (dk_at dksX3_init_0 14 rfl rfl)
theorem dX3_init_17 : decode cX3_init 17 = .ok (.aload_n 0, 1) := dk_42 (dk_at dksX3_init_0 17 rfl rfl)
theorem dX3_init_18 : decode cX3_init 18 = .ok (.new 9, 3) := dk_187 0 9 (dk_at dksX3_init_0 18 rfl rfl)
theorem dX3_init_21 : decode cX3_init 21 = .ok (.dup, 1) := dk_89 (dk_at dksX3_init_0 21 rfl rfl)
theorem dX3_init_22 : decode cX3_init 22 = .ok (.bipush 6, 2) := dk_16 6 (dk_at dksX3_init_0 22 rfl rfl)
theorem dX3_init_24 : decode cX3_init 24 = .ok (.invokespecial 11, 3) := dk_183 0 11 (dk_at dksX3_init_1 0 rfl rfl)
theorem dX3_init_27 : decode cX3_init 27 = .ok (.putfield 20, 3) := dk_181 0 20 (dk_at dksX3_init_1 3 rfl rfl)
theorem dX3_init_30 : decode cX3_init 30 = .ok (.aload_n 0, 1) := dk_42 (dk_at dksX3_init_1 6 rfl rfl)
theorem dX3_init_31 : decode cX3_init 31 = .ok (.new 9, 3) := dk_187 0 9 (dk_at dksX3_init_1 7 rfl rfl)
theorem dX3_init_34 : decode cX3_init 34 = .ok (.dup, 1) := dk_89 (dk_at dksX3_init_1 10 rfl rfl)
theorem dX3_init_35 : decode cX3_init 35 = .ok (.bipush 12, 2) := dk_16 12 (dk_at dksX3_init_1 11 rfl rfl)
theorem dX3_init_37 : decode cX3_init 37 = .ok (.invokespecial 11, 3) := dk_183 0 11 (dk_at dksX3_init_1 13 rfl rfl)
theorem dX3_init_40 : decode cX3_init 40 = .ok (.putfield 23, 3) := dk_181 0 23 (dk_at dksX3_init_1 16 rfl rfl)
theorem dX3_init_43 : decode cX3_init 43 = .ok (.aload_n 0, 1) := dk_42 (dk_at dksX3_init_1 19 rfl rfl)
theorem dX3_init_44 : decode cX3_init 44 = .ok (.iconst 3, 1) := dk_6 (dk_at dksX3_init_1 20 rfl rfl)
theorem dX3_init_45 : decode cX3_init 45 = .ok (.anewarray 26, 3) := dk_189 0 26 (dk_at dksX3_init_1 21 rfl rfl)
theorem dX3_init_48 : decode cX3_init 48 = .ok (.putfield 28, 3) := dk_181 0 28 (dk_at dksX3_init_2 0 rfl rfl)
theorem dX3_init_51 : decode cX3_init 51 = .ok (.aload_n 0, 1) := dk_42 (dk_at dksX3_init_2 3 rfl rfl)
theorem dX3_init_52 : decode cX3_init 52 = .ok (.bipush 20, 2) := dk_16 20 (dk_at dksX3_init_2 4 rfl rfl)
theorem dX3_init_54 : decode cX3_init 54 = .ok (.putfield 32, 3) := dk_181 0 32 (dk_at dksX3_init_2 6 rfl rfl)
theorem dX3_init_57 : decode cX3_init 57 = .ok (.return_, 1) := dk_177 (dk_at dksX3_init_2 9 rfl rfl)
theorem q125 : (Jvm.Cond.initialized "TroughTreaty$Road") ∈ lw_all := lw_g (lw_at lw_m1 3 rfl) rfl
theorem q208 : (Jvm.Cond.instantiable "TroughTreaty$Road" (9 : Nat)) ∈ lw_all := lw_g (lw_at lw_m1 86 rfl) rfl
theorem q210 : (Jvm.Cond.instanceMethod ({ cls := "TroughTreaty$Road", name := "<init>", desc := "()V" } : Jvm.MethodName)) ∈ lw_all := lw_g (lw_at lw_m1 88 rfl) rfl
theorem q211 : (Jvm.Cond.code ({ cls := "TroughTreaty$Road", name := "<init>", desc := "()V" } : Jvm.MethodName) prog_15_method_1_code (1 : Nat) (Option.none : Option Jvm.ClassFile.FieldType)) ∈ lw_all := lw_g (lw_at lw_m1 89 rfl) rfl
theorem q212 : (Jvm.Cond.methodLink "TroughTreaty$Road" (3 : Nat) ({ cls := "java/lang/Object", name := "<init>", desc := "()V" } : Jvm.MethodName)) ∈ lw_all := lw_g (lw_at lw_m1 90 rfl) rfl
theorem q213 : (Jvm.Cond.classLink "TroughTreaty$Road" (9 : Nat) "java/util/ArrayList") ∈ lw_all := lw_g (lw_at lw_m1 91 rfl) rfl
theorem q215 : (Jvm.Cond.methodLink "TroughTreaty$Road" (11 : Nat) ({ cls := "java/util/ArrayList", name := "<init>", desc := "(I)V" } : Jvm.MethodName)) ∈ lw_all := lw_g (lw_at lw_m1 93 rfl) rfl
theorem q241 : (Jvm.Cond.classLink "TroughTreaty$Road" (26 : Nat) "TroughTreaty$Part") ∈ lw_all := lw_g (lw_at lw_m1 119 rfl) rfl
theorem q243 : (Jvm.Cond.fieldLink "TroughTreaty$Road" (14 : Nat) "TroughTreaty$Road" "troughs" "Ljava/util/ArrayList;") ∈ lw_all := lw_g (lw_at lw_m1 121 rfl) rfl
theorem q247 : (Jvm.Cond.fieldLink "TroughTreaty$Road" (20 : Nat) "TroughTreaty$Road" "horses" "Ljava/util/ArrayList;") ∈ lw_all := lw_g (lw_at lw_m1 125 rfl) rfl
theorem q250 : (Jvm.Cond.fieldLink "TroughTreaty$Road" (23 : Nat) "TroughTreaty$Road" "laps" "Ljava/util/ArrayList;") ∈ lw_all := lw_g (lw_at lw_m1 128 rfl) rfl
theorem q254 : (Jvm.Cond.fieldLink "TroughTreaty$Road" (28 : Nat) "TroughTreaty$Road" "laws" "[LTroughTreaty$Part;") ∈ lw_all := lw_g (lw_at lw_m1 132 rfl) rfl
theorem q257 : (Jvm.Cond.fieldLink "TroughTreaty$Road" (32 : Nat) "TroughTreaty$Road" "length" "I") ∈ lw_all := lw_g (lw_at lw_m1 135 rfl) rfl
theorem q269 : (Jvm.Cond.laysFinal "TroughTreaty$Road" "TroughTreaty$Road" "troughs" "Ljava/util/ArrayList;") ∈ lw_all := lw_g (lw_at lw_m1 147 rfl) rfl
theorem q270 : (Jvm.Cond.soleField "TroughTreaty$Road" "troughs") ∈ lw_all := lw_g (lw_at lw_m1 148 rfl) rfl
theorem q271 : (Jvm.Cond.laysFinal "TroughTreaty$Road" "TroughTreaty$Road" "horses" "Ljava/util/ArrayList;") ∈ lw_all := lw_g (lw_at lw_m1 149 rfl) rfl
theorem q272 : (Jvm.Cond.soleField "TroughTreaty$Road" "horses") ∈ lw_all := lw_g (lw_at lw_m1 150 rfl) rfl
theorem q273 : (Jvm.Cond.laysFinal "TroughTreaty$Road" "TroughTreaty$Road" "laps" "Ljava/util/ArrayList;") ∈ lw_all := lw_g (lw_at lw_m1 151 rfl) rfl
theorem q274 : (Jvm.Cond.soleField "TroughTreaty$Road" "laps") ∈ lw_all := lw_g (lw_at lw_m1 152 rfl) rfl
theorem q275 : (Jvm.Cond.laysFinal "TroughTreaty$Road" "TroughTreaty$Road" "laws" "[LTroughTreaty$Part;") ∈ lw_all := lw_g (lw_at lw_m1 153 rfl) rfl
theorem q276 : (Jvm.Cond.soleField "TroughTreaty$Road" "laws") ∈ lw_all := lw_g (lw_at lw_m1 154 rfl) rfl
theorem q277 : (Jvm.Cond.lays "TroughTreaty$Road" "TroughTreaty$Road" "length" "I") ∈ lw_all := lw_g (lw_at lw_m1 155 rfl) rfl
theorem q278 : (Jvm.Cond.soleField "TroughTreaty$Road" "length") ∈ lw_all := lw_g (lw_at lw_m1 156 rfl) rfl
theorem q279 : (Jvm.Cond.lays "TroughTreaty$Road" "TroughTreaty$Road" "rain" "I") ∈ lw_all := lw_g (lw_at lw_m1 157 rfl) rfl
theorem q280 : (Jvm.Cond.soleField "TroughTreaty$Road" "rain") ∈ lw_all := lw_g (lw_at lw_m1 158 rfl) rfl
theorem q281 : (Jvm.Cond.lays "TroughTreaty$Road" "TroughTreaty$Road" "seed" "I") ∈ lw_all := lw_g (lw_at lw_m1 159 rfl) rfl
theorem q282 : (Jvm.Cond.soleField "TroughTreaty$Road" "seed") ∈ lw_all := lw_g (lw_at lw_m1 160 rfl) rfl
theorem q283 : (Jvm.Cond.lays "TroughTreaty$Road" "TroughTreaty$Road" "knots" "I") ∈ lw_all := lw_g (lw_at lw_m1 161 rfl) rfl
theorem q284 : (Jvm.Cond.soleField "TroughTreaty$Road" "knots") ∈ lw_all := lw_g (lw_at lw_m1 162 rfl) rfl
theorem q285 : (Jvm.Cond.lays "TroughTreaty$Road" "TroughTreaty$Road" "lines" "I") ∈ lw_all := lw_g (lw_at lw_m1 163 rfl) rfl
theorem q286 : (Jvm.Cond.soleField "TroughTreaty$Road" "lines") ∈ lw_all := lw_g (lw_at lw_m1 164 rfl) rfl
theorem q287 : (Jvm.Cond.superclass "TroughTreaty$Road" "java/lang/Object") ∈ lw_all := lw_g (lw_at lw_m1 165 rfl) rfl
theorem q839 : (Jvm.Cond.selects "TroughTreaty$Road" ({ cls := "java/lang/Object", name := "getClass", desc := "()Ljava/lang/Class;" } : Jvm.MethodName) ({ cls := "java/lang/Object", name := "getClass", desc := "()Ljava/lang/Class;" } : Jvm.MethodName)) ∈ lw_all := lw_g (lw_at lw_m3 237 rfl) rfl
theorem q2276 : (Jvm.Cond.castable "TroughTreaty$Road" "java/lang/Object") ∈ lw_tbl := lw_at lw_m9 234 rfl
theorem in_X3 : ∀ w ∈ wsX30, w ∈ lw_all := lw_in wsX30 [269, 271, 273, 275, 277, 279, 281, 283, 285] (by decide +kernel) (by decide +kernel)

/-! TroughTreaty$Nature -/
set_option maxRecDepth 100000
def RX4 : String := "TroughTreaty$Nature"
abbrev cX4_init : ByteArray := prog_9_method_1_code
def yX4_init : MethodName := ⟨RX4, "<init>", "(LTroughTreaty;)V"⟩
def dkwX4_init_0 : List UInt8 := [42, 43, 181, 0, 3, 42, 183, 0, 9, 177]
abbrev dktX4_init_0 : List UInt8 := dkwX4_init_0 ++ []
theorem dksX4_init_0 : cX4_init.data.toList.drop 0 = dktX4_init_0 := by decide +kernel
theorem dX4_init_0 : decode cX4_init 0 = .ok (.aload_n 0, 1) := dk_42 (dk_at dksX4_init_0 0 rfl rfl)
theorem dX4_init_1 : decode cX4_init 1 = .ok (.aload_n 1, 1) := dk_43 (dk_at dksX4_init_0 1 rfl rfl)
theorem dX4_init_2 : decode cX4_init 2 = .ok (.putfield 3, 3) := dk_181 0 3 (dk_at dksX4_init_0 2 rfl rfl)
theorem dX4_init_5 : decode cX4_init 5 = .ok (.aload_n 0, 1) := dk_42 (dk_at dksX4_init_0 5 rfl rfl)
theorem dX4_init_6 : decode cX4_init 6 = .ok (.invokespecial 9, 3) := dk_183 0 9 (dk_at dksX4_init_0 6 rfl rfl)
theorem dX4_init_9 : decode cX4_init 9 = .ok (.return_, 1) := dk_177 (dk_at dksX4_init_0 9 rfl rfl)
abbrev cX4_dries : ByteArray := prog_9_method_2_code
def yX4_dries : MethodName := ⟨RX4, "dries", "(LTroughTreaty$State;I)I"⟩
theorem dX4_dries_0 : decode cX4_dries 0 = .ok (.iconst 1, 1) := by decide +kernel
theorem dX4_dries_1 : decode cX4_dries 1 = .ok (.ireturn, 1) := by decide +kernel
abbrev cX4_gulps : ByteArray := prog_9_method_3_code
def yX4_gulps : MethodName := ⟨RX4, "gulps", "(LTroughTreaty$State;I)I"⟩
theorem dX4_gulps_0 : decode cX4_gulps 0 = .ok (.bipush 9, 2) := by decide +kernel
theorem dX4_gulps_2 : decode cX4_gulps 2 = .ok (.ireturn, 1) := by decide +kernel
abbrev cX4_fights : ByteArray := prog_9_method_4_code
def yX4_fights : MethodName := ⟨RX4, "fights", "(LTroughTreaty$State;I)I"⟩
theorem dX4_fights_0 : decode cX4_fights 0 = .ok (.iconst 1, 1) := by decide +kernel
theorem dX4_fights_1 : decode cX4_fights 1 = .ok (.ireturn, 1) := by decide +kernel
theorem q129 : (Jvm.Cond.initialized "TroughTreaty$Nature") ∈ lw_all := lw_g (lw_at lw_m1 7 rfl) rfl
theorem q294 : (Jvm.Cond.instanceMethod ({ cls := "TroughTreaty$Nature", name := "<init>", desc := "(LTroughTreaty;)V" } : Jvm.MethodName)) ∈ lw_all := lw_g (lw_at lw_m1 172 rfl) rfl
theorem q295 : (Jvm.Cond.code ({ cls := "TroughTreaty$Nature", name := "<init>", desc := "(LTroughTreaty;)V" } : Jvm.MethodName) prog_9_method_1_code (2 : Nat) (Option.none : Option Jvm.ClassFile.FieldType)) ∈ lw_all := lw_g (lw_at lw_m1 173 rfl) rfl
theorem q296 : (Jvm.Cond.methodLink "TroughTreaty$Nature" (9 : Nat) ({ cls := "java/lang/Object", name := "<init>", desc := "()V" } : Jvm.MethodName)) ∈ lw_all := lw_g (lw_at lw_m1 174 rfl) rfl
theorem q298 : (Jvm.Cond.fieldLink "TroughTreaty$Nature" (3 : Nat) "TroughTreaty$Nature" "this$0" "LTroughTreaty;") ∈ lw_all := lw_g (lw_at lw_m1 176 rfl) rfl
theorem q302 : (Jvm.Cond.soleField "TroughTreaty$Nature" "this$0") ∈ lw_all := lw_g (lw_at lw_m1 180 rfl) rfl
theorem q1134 : (Jvm.Cond.instanceMethod ({ cls := "TroughTreaty$Nature", name := "dries", desc := "(LTroughTreaty$State;I)I" } : Jvm.MethodName)) ∈ lw_all := lw_g (lw_at lw_m5 52 rfl) rfl
theorem q1135 : (Jvm.Cond.sameMethod "TroughTreaty$Nature" "TroughTreaty$Nature" "dries" "(LTroughTreaty$State;I)I") ∈ lw_all := lw_g (lw_at lw_m5 53 rfl) rfl
theorem q1155 : (Jvm.Cond.code ({ cls := "TroughTreaty$Nature", name := "dries", desc := "(LTroughTreaty$State;I)I" } : Jvm.MethodName) prog_9_method_2_code (3 : Nat) (Option.some Jvm.ClassFile.FieldType.int)) ∈ lw_all := lw_g (lw_at lw_m5 73 rfl) rfl
theorem q1161 : (Jvm.Cond.instanceMethod ({ cls := "TroughTreaty$Nature", name := "gulps", desc := "(LTroughTreaty$State;I)I" } : Jvm.MethodName)) ∈ lw_all := lw_g (lw_at lw_m5 79 rfl) rfl
theorem q1162 : (Jvm.Cond.sameMethod "TroughTreaty$Nature" "TroughTreaty$Nature" "gulps" "(LTroughTreaty$State;I)I") ∈ lw_all := lw_g (lw_at lw_m5 80 rfl) rfl
theorem q1167 : (Jvm.Cond.code ({ cls := "TroughTreaty$Nature", name := "gulps", desc := "(LTroughTreaty$State;I)I" } : Jvm.MethodName) prog_9_method_3_code (3 : Nat) (Option.some Jvm.ClassFile.FieldType.int)) ∈ lw_all := lw_g (lw_at lw_m5 85 rfl) rfl
theorem q1173 : (Jvm.Cond.instanceMethod ({ cls := "TroughTreaty$Nature", name := "fights", desc := "(LTroughTreaty$State;I)I" } : Jvm.MethodName)) ∈ lw_all := lw_g (lw_at lw_m5 91 rfl) rfl
theorem q1174 : (Jvm.Cond.sameMethod "TroughTreaty$Nature" "TroughTreaty$Nature" "fights" "(LTroughTreaty$State;I)I") ∈ lw_all := lw_g (lw_at lw_m5 92 rfl) rfl
theorem q1179 : (Jvm.Cond.code ({ cls := "TroughTreaty$Nature", name := "fights", desc := "(LTroughTreaty$State;I)I" } : Jvm.MethodName) prog_9_method_4_code (3 : Nat) (Option.some Jvm.ClassFile.FieldType.int)) ∈ lw_all := lw_g (lw_at lw_m5 97 rfl) rfl

/-! TroughTreaty$Lawful -/
set_option maxRecDepth 100000
def RX5 : String := "TroughTreaty$Lawful"
def TX5 : u_T := fun k => match k with
  | 0 => ("TroughTreaty$Nature", "this$0", "LTroughTreaty;", true)
  | _ => ("TroughTreaty$Lawful", "this$0", "LTroughTreaty;", true)
def tyX5 : Nat → FieldType := fun k => match k with
  | 0 => .object "TroughTreaty"
  | _ => .object "TroughTreaty"
abbrev wsX50 : List Cond := u_ws RX5 TX5 2
-- two fields of one name: no nmX5
theorem tyX5_ok : ∀ k, k < 2 → parseFieldDescriptor (TX5 k).2.2.1 = some (tyX5 k) := by decide +kernel
abbrev cX5_init : ByteArray := prog_5_method_1_code
def yX5_init : MethodName := ⟨RX5, "<init>", "(LTroughTreaty;)V"⟩
def dkwX5_init_0 : List UInt8 := [42, 43, 181, 0, 3, 42, 43, 183, 0, 9, 177]
abbrev dktX5_init_0 : List UInt8 := dkwX5_init_0 ++ []
theorem dksX5_init_0 : cX5_init.data.toList.drop 0 = dktX5_init_0 := by decide +kernel
theorem dX5_init_0 : decode cX5_init 0 = .ok (.aload_n 0, 1) := dk_42 (dk_at dksX5_init_0 0 rfl rfl)
theorem dX5_init_1 : decode cX5_init 1 = .ok (.aload_n 1, 1) := dk_43 (dk_at dksX5_init_0 1 rfl rfl)
theorem dX5_init_2 : decode cX5_init 2 = .ok (.putfield 3, 3) := dk_181 0 3 (dk_at dksX5_init_0 2 rfl rfl)
theorem dX5_init_5 : decode cX5_init 5 = .ok (.aload_n 0, 1) := dk_42 (dk_at dksX5_init_0 5 rfl rfl)
theorem dX5_init_6 : decode cX5_init 6 = .ok (.aload_n 1, 1) := dk_43 (dk_at dksX5_init_0 6 rfl rfl)
theorem dX5_init_7 : decode cX5_init 7 = .ok (.invokespecial 9, 3) := dk_183 0 9 (dk_at dksX5_init_0 7 rfl rfl)
theorem dX5_init_10 : decode cX5_init 10 = .ok (.return_, 1) := dk_177 (dk_at dksX5_init_0 10 rfl rfl)
abbrev cX5_dries : ByteArray := prog_5_method_3_code
def yX5_dries : MethodName := ⟨RX5, "dries", "(LTroughTreaty$State;I)I"⟩
def dkwX5_dries_0 : List UInt8 := [42, 43, 28, 3, 42, 43, 28, 183, 0, 29, 182, 0, 33, 172]
abbrev dktX5_dries_0 : List UInt8 := dkwX5_dries_0 ++ []
theorem dksX5_dries_0 : cX5_dries.data.toList.drop 0 = dktX5_dries_0 := by decide +kernel
theorem dX5_dries_0 : decode cX5_dries 0 = .ok (.aload_n 0, 1) := dk_42 (dk_at dksX5_dries_0 0 rfl rfl)
theorem dX5_dries_1 : decode cX5_dries 1 = .ok (.aload_n 1, 1) := dk_43 (dk_at dksX5_dries_0 1 rfl rfl)
theorem dX5_dries_2 : decode cX5_dries 2 = .ok (.iload_n 2, 1) := dk_28 (dk_at dksX5_dries_0 2 rfl rfl)
theorem dX5_dries_3 : decode cX5_dries 3 = .ok (.iconst 0, 1) := dk_3 (dk_at dksX5_dries_0 3 rfl rfl)
theorem dX5_dries_4 : decode cX5_dries 4 = .ok (.aload_n 0, 1) := dk_42 (dk_at dksX5_dries_0 4 rfl rfl)
theorem dX5_dries_5 : decode cX5_dries 5 = .ok (.aload_n 1, 1) := dk_43 (dk_at dksX5_dries_0 5 rfl rfl)
theorem dX5_dries_6 : decode cX5_dries 6 = .ok (.iload_n 2, 1) := dk_28 (dk_at dksX5_dries_0 6 rfl rfl)
theorem dX5_dries_7 : decode cX5_dries 7 = .ok (.invokespecial 29, 3) := dk_183 0 29 (dk_at dksX5_dries_0 7 rfl rfl)
theorem dX5_dries_10 : decode cX5_dries 10 = .ok (.invokevirtual 33, 3) := dk_182 0 33 (dk_at dksX5_dries_0 10 rfl rfl)
theorem dX5_dries_13 : decode cX5_dries 13 = .ok (.ireturn, 1) := dk_172 (dk_at dksX5_dries_0 13 rfl rfl)
abbrev cX5_by : ByteArray := prog_5_method_2_code
def yX5_by : MethodName := ⟨RX5, "by", "(LTroughTreaty$State;III)I"⟩
def dkwX5_by_0 : List UInt8 := [43, 28, 182, 0, 15, 42, 180, 0, 3, 29, 182, 0, 21, 3, 16, 99, 21, 4, 184, 0, 25, 172]
abbrev dktX5_by_0 : List UInt8 := dkwX5_by_0 ++ []
theorem dksX5_by_0 : cX5_by.data.toList.drop 0 = dktX5_by_0 := by decide +kernel
theorem dX5_by_0 : decode cX5_by 0 = .ok (.aload_n 1, 1) := dk_43 (dk_at dksX5_by_0 0 rfl rfl)
theorem dX5_by_1 : decode cX5_by 1 = .ok (.iload_n 2, 1) := dk_28 (dk_at dksX5_by_0 1 rfl rfl)
theorem dX5_by_2 : decode cX5_by 2 = .ok (.invokevirtual 15, 3) := dk_182 0 15 (dk_at dksX5_by_0 2 rfl rfl)
theorem dX5_by_5 : decode cX5_by 5 = .ok (.aload_n 0, 1) := dk_42 (dk_at dksX5_by_0 5 rfl rfl)
theorem dX5_by_6 : decode cX5_by 6 = .ok (.getfield 3, 3) := dk_180 0 3 (dk_at dksX5_by_0 6 rfl rfl)
theorem dX5_by_9 : decode cX5_by 9 = .ok (.iload_n 3, 1) := dk_29 (dk_at dksX5_by_0 9 rfl rfl)
theorem dX5_by_10 : decode cX5_by 10 = .ok (.invokevirtual 21, 3) := dk_182 0 21 (dk_at dksX5_by_0 10 rfl rfl)
theorem dX5_by_13 : decode cX5_by 13 = .ok (.iconst 0, 1) := dk_3 (dk_at dksX5_by_0 13 rfl rfl)
theorem dX5_by_14 : decode cX5_by 14 = .ok (.bipush 99, 2) := dk_16 99 (dk_at dksX5_by_0 14 rfl rfl)
theorem dX5_by_16 : decode cX5_by 16 = .ok (.iload 4, 2) := dk_21 4 (dk_at dksX5_by_0 16 rfl rfl)
theorem dX5_by_18 : decode cX5_by 18 = .ok (.invokestatic 25, 3) := dk_184 0 25 (dk_at dksX5_by_0 18 rfl rfl)
theorem dX5_by_21 : decode cX5_by 21 = .ok (.ireturn, 1) := dk_172 (dk_at dksX5_by_0 21 rfl rfl)
abbrev cX5_gulps : ByteArray := prog_5_method_4_code
def yX5_gulps : MethodName := ⟨RX5, "gulps", "(LTroughTreaty$State;I)I"⟩
def dkwX5_gulps_0 : List UInt8 := [42, 43, 28, 4, 42, 43, 28, 183, 0, 37, 182, 0, 33, 172]
abbrev dktX5_gulps_0 : List UInt8 := dkwX5_gulps_0 ++ []
theorem dksX5_gulps_0 : cX5_gulps.data.toList.drop 0 = dktX5_gulps_0 := by decide +kernel
theorem dX5_gulps_0 : decode cX5_gulps 0 = .ok (.aload_n 0, 1) := dk_42 (dk_at dksX5_gulps_0 0 rfl rfl)
theorem dX5_gulps_1 : decode cX5_gulps 1 = .ok (.aload_n 1, 1) := dk_43 (dk_at dksX5_gulps_0 1 rfl rfl)
theorem dX5_gulps_2 : decode cX5_gulps 2 = .ok (.iload_n 2, 1) := dk_28 (dk_at dksX5_gulps_0 2 rfl rfl)
theorem dX5_gulps_3 : decode cX5_gulps 3 = .ok (.iconst 1, 1) := dk_4 (dk_at dksX5_gulps_0 3 rfl rfl)
theorem dX5_gulps_4 : decode cX5_gulps 4 = .ok (.aload_n 0, 1) := dk_42 (dk_at dksX5_gulps_0 4 rfl rfl)
theorem dX5_gulps_5 : decode cX5_gulps 5 = .ok (.aload_n 1, 1) := dk_43 (dk_at dksX5_gulps_0 5 rfl rfl)
theorem dX5_gulps_6 : decode cX5_gulps 6 = .ok (.iload_n 2, 1) := dk_28 (dk_at dksX5_gulps_0 6 rfl rfl)
theorem dX5_gulps_7 : decode cX5_gulps 7 = .ok (.invokespecial 37, 3) := dk_183 0 37 (dk_at dksX5_gulps_0 7 rfl rfl)
theorem dX5_gulps_10 : decode cX5_gulps 10 = .ok (.invokevirtual 33, 3) := dk_182 0 33 (dk_at dksX5_gulps_0 10 rfl rfl)
theorem dX5_gulps_13 : decode cX5_gulps 13 = .ok (.ireturn, 1) := dk_172 (dk_at dksX5_gulps_0 13 rfl rfl)
abbrev cX5_fights : ByteArray := prog_5_method_5_code
def yX5_fights : MethodName := ⟨RX5, "fights", "(LTroughTreaty$State;I)I"⟩
def dkwX5_fights_0 : List UInt8 := [42, 43, 28, 5, 42, 43, 28, 183, 0, 40, 182, 0, 33, 172]
abbrev dktX5_fights_0 : List UInt8 := dkwX5_fights_0 ++ []
theorem dksX5_fights_0 : cX5_fights.data.toList.drop 0 = dktX5_fights_0 := by decide +kernel
theorem dX5_fights_0 : decode cX5_fights 0 = .ok (.aload_n 0, 1) := dk_42 (dk_at dksX5_fights_0 0 rfl rfl)
theorem dX5_fights_1 : decode cX5_fights 1 = .ok (.aload_n 1, 1) := dk_43 (dk_at dksX5_fights_0 1 rfl rfl)
theorem dX5_fights_2 : decode cX5_fights 2 = .ok (.iload_n 2, 1) := dk_28 (dk_at dksX5_fights_0 2 rfl rfl)
theorem dX5_fights_3 : decode cX5_fights 3 = .ok (.iconst 2, 1) := dk_5 (dk_at dksX5_fights_0 3 rfl rfl)
theorem dX5_fights_4 : decode cX5_fights 4 = .ok (.aload_n 0, 1) := dk_42 (dk_at dksX5_fights_0 4 rfl rfl)
theorem dX5_fights_5 : decode cX5_fights 5 = .ok (.aload_n 1, 1) := dk_43 (dk_at dksX5_fights_0 5 rfl rfl)
theorem dX5_fights_6 : decode cX5_fights 6 = .ok (.iload_n 2, 1) := dk_28 (dk_at dksX5_fights_0 6 rfl rfl)
theorem dX5_fights_7 : decode cX5_fights 7 = .ok (.invokespecial 40, 3) := dk_183 0 40 (dk_at dksX5_fights_0 7 rfl rfl)
theorem dX5_fights_10 : decode cX5_fights 10 = .ok (.invokevirtual 33, 3) := dk_182 0 33 (dk_at dksX5_fights_0 10 rfl rfl)
theorem dX5_fights_13 : decode cX5_fights 13 = .ok (.ireturn, 1) := dk_172 (dk_at dksX5_fights_0 13 rfl rfl)
theorem q130 : (Jvm.Cond.initialized "TroughTreaty$Lawful") ∈ lw_all := lw_g (lw_at lw_m1 8 rfl) rfl
theorem q289 : (Jvm.Cond.instantiable "TroughTreaty$Lawful" (2 : Nat)) ∈ lw_all := lw_g (lw_at lw_m1 167 rfl) rfl
theorem q291 : (Jvm.Cond.instanceMethod ({ cls := "TroughTreaty$Lawful", name := "<init>", desc := "(LTroughTreaty;)V" } : Jvm.MethodName)) ∈ lw_all := lw_g (lw_at lw_m1 169 rfl) rfl
theorem q292 : (Jvm.Cond.code ({ cls := "TroughTreaty$Lawful", name := "<init>", desc := "(LTroughTreaty;)V" } : Jvm.MethodName) prog_5_method_1_code (2 : Nat) (Option.none : Option Jvm.ClassFile.FieldType)) ∈ lw_all := lw_g (lw_at lw_m1 170 rfl) rfl
theorem q293 : (Jvm.Cond.methodLinkNest "TroughTreaty$Lawful" (9 : Nat) ({ cls := "TroughTreaty$Nature", name := "<init>", desc := "(LTroughTreaty;)V" } : Jvm.MethodName) "TroughTreaty") ∈ lw_tbl := lw_at lw_m1 171 rfl
theorem q297 : (Jvm.Cond.fieldLink "TroughTreaty$Lawful" (3 : Nat) "TroughTreaty$Lawful" "this$0" "LTroughTreaty;") ∈ lw_all := lw_g (lw_at lw_m1 175 rfl) rfl
theorem q299 : (Jvm.Cond.laysFinal "TroughTreaty$Lawful" "TroughTreaty$Lawful" "this$0" "LTroughTreaty;") ∈ lw_all := lw_g (lw_at lw_m1 177 rfl) rfl
theorem q300 : (Jvm.Cond.soleField "TroughTreaty$Lawful" "this$0") ∈ lw_all := lw_g (lw_at lw_m1 178 rfl) rfl
theorem q301 : (Jvm.Cond.laysFinal "TroughTreaty$Lawful" "TroughTreaty$Nature" "this$0" "LTroughTreaty;") ∈ lw_all := lw_g (lw_at lw_m1 179 rfl) rfl
theorem q303 : (Jvm.Cond.superclass "TroughTreaty$Lawful" "TroughTreaty$Nature") ∈ lw_all := lw_g (lw_at lw_m1 181 rfl) rfl
theorem q834 : (Jvm.Cond.selects "TroughTreaty$Lawful" ({ cls := "java/lang/Object", name := "getClass", desc := "()Ljava/lang/Class;" } : Jvm.MethodName) ({ cls := "java/lang/Object", name := "getClass", desc := "()Ljava/lang/Class;" } : Jvm.MethodName)) ∈ lw_all := lw_g (lw_at lw_m3 232 rfl) rfl
theorem q1136 : (Jvm.Cond.selects "TroughTreaty$Lawful" ({ cls := "TroughTreaty$Nature", name := "dries", desc := "(LTroughTreaty$State;I)I" } : Jvm.MethodName) ({ cls := "TroughTreaty$Lawful", name := "dries", desc := "(LTroughTreaty$State;I)I" } : Jvm.MethodName)) ∈ lw_all := lw_g (lw_at lw_m5 54 rfl) rfl
theorem q1137 : (Jvm.Cond.instanceMethod ({ cls := "TroughTreaty$Lawful", name := "dries", desc := "(LTroughTreaty$State;I)I" } : Jvm.MethodName)) ∈ lw_all := lw_g (lw_at lw_m5 55 rfl) rfl
theorem q1138 : (Jvm.Cond.code ({ cls := "TroughTreaty$Lawful", name := "dries", desc := "(LTroughTreaty$State;I)I" } : Jvm.MethodName) prog_5_method_3_code (3 : Nat) (Option.some Jvm.ClassFile.FieldType.int)) ∈ lw_all := lw_g (lw_at lw_m5 56 rfl) rfl
theorem q1139 : (Jvm.Cond.methodLink "TroughTreaty$Lawful" (29 : Nat) ({ cls := "TroughTreaty$Nature", name := "dries", desc := "(LTroughTreaty$State;I)I" } : Jvm.MethodName)) ∈ lw_all := lw_g (lw_at lw_m5 57 rfl) rfl
theorem q1140 : (Jvm.Cond.methodLink "TroughTreaty$Lawful" (33 : Nat) ({ cls := "TroughTreaty$Lawful", name := "by", desc := "(LTroughTreaty$State;III)I" } : Jvm.MethodName)) ∈ lw_all := lw_g (lw_at lw_m5 58 rfl) rfl
theorem q1141 : (Jvm.Cond.privateMethod ({ cls := "TroughTreaty$Lawful", name := "by", desc := "(LTroughTreaty$State;III)I" } : Jvm.MethodName)) ∈ lw_tbl := lw_at lw_m5 59 rfl
theorem q1142 : (Jvm.Cond.instanceMethod ({ cls := "TroughTreaty$Lawful", name := "by", desc := "(LTroughTreaty$State;III)I" } : Jvm.MethodName)) ∈ lw_all := lw_g (lw_at lw_m5 60 rfl) rfl
theorem q1143 : (Jvm.Cond.code ({ cls := "TroughTreaty$Lawful", name := "by", desc := "(LTroughTreaty$State;III)I" } : Jvm.MethodName) prog_5_method_2_code (5 : Nat) (Option.some Jvm.ClassFile.FieldType.int)) ∈ lw_all := lw_g (lw_at lw_m5 61 rfl) rfl
theorem q1144 : (Jvm.Cond.methodLink "TroughTreaty$Lawful" (15 : Nat) ({ cls := "TroughTreaty$State", name := "name", desc := "(I)V" } : Jvm.MethodName)) ∈ lw_all := lw_g (lw_at lw_m5 62 rfl) rfl
theorem q1145 : (Jvm.Cond.methodLinkNest "TroughTreaty$Lawful" (21 : Nat) ({ cls := "TroughTreaty", name := "work", desc := "(I)J" } : Jvm.MethodName) "TroughTreaty") ∈ lw_tbl := lw_at lw_m5 63 rfl
theorem q1146 : (Jvm.Cond.methodLinkNest "TroughTreaty$Lawful" (25 : Nat) ({ cls := "TroughTreaty", name := "within", desc := "(JIII)I" } : Jvm.MethodName) "TroughTreaty") ∈ lw_tbl := lw_at lw_m5 64 rfl
theorem q1163 : (Jvm.Cond.selects "TroughTreaty$Lawful" ({ cls := "TroughTreaty$Nature", name := "gulps", desc := "(LTroughTreaty$State;I)I" } : Jvm.MethodName) ({ cls := "TroughTreaty$Lawful", name := "gulps", desc := "(LTroughTreaty$State;I)I" } : Jvm.MethodName)) ∈ lw_all := lw_g (lw_at lw_m5 81 rfl) rfl
theorem q1164 : (Jvm.Cond.instanceMethod ({ cls := "TroughTreaty$Lawful", name := "gulps", desc := "(LTroughTreaty$State;I)I" } : Jvm.MethodName)) ∈ lw_all := lw_g (lw_at lw_m5 82 rfl) rfl
theorem q1165 : (Jvm.Cond.code ({ cls := "TroughTreaty$Lawful", name := "gulps", desc := "(LTroughTreaty$State;I)I" } : Jvm.MethodName) prog_5_method_4_code (3 : Nat) (Option.some Jvm.ClassFile.FieldType.int)) ∈ lw_all := lw_g (lw_at lw_m5 83 rfl) rfl
theorem q1166 : (Jvm.Cond.methodLink "TroughTreaty$Lawful" (37 : Nat) ({ cls := "TroughTreaty$Nature", name := "gulps", desc := "(LTroughTreaty$State;I)I" } : Jvm.MethodName)) ∈ lw_all := lw_g (lw_at lw_m5 84 rfl) rfl
theorem q1175 : (Jvm.Cond.selects "TroughTreaty$Lawful" ({ cls := "TroughTreaty$Nature", name := "fights", desc := "(LTroughTreaty$State;I)I" } : Jvm.MethodName) ({ cls := "TroughTreaty$Lawful", name := "fights", desc := "(LTroughTreaty$State;I)I" } : Jvm.MethodName)) ∈ lw_all := lw_g (lw_at lw_m5 93 rfl) rfl
theorem q1176 : (Jvm.Cond.instanceMethod ({ cls := "TroughTreaty$Lawful", name := "fights", desc := "(LTroughTreaty$State;I)I" } : Jvm.MethodName)) ∈ lw_all := lw_g (lw_at lw_m5 94 rfl) rfl
theorem q1177 : (Jvm.Cond.code ({ cls := "TroughTreaty$Lawful", name := "fights", desc := "(LTroughTreaty$State;I)I" } : Jvm.MethodName) prog_5_method_5_code (3 : Nat) (Option.some Jvm.ClassFile.FieldType.int)) ∈ lw_all := lw_g (lw_at lw_m5 95 rfl) rfl
theorem q1178 : (Jvm.Cond.methodLink "TroughTreaty$Lawful" (40 : Nat) ({ cls := "TroughTreaty$Nature", name := "fights", desc := "(LTroughTreaty$State;I)I" } : Jvm.MethodName)) ∈ lw_all := lw_g (lw_at lw_m5 96 rfl) rfl
theorem q2278 : (Jvm.Cond.castable "TroughTreaty$Lawful" "java/lang/Object") ∈ lw_tbl := lw_at lw_m9 236 rfl
theorem in_X5 : ∀ w ∈ wsX50, w ∈ lw_all := lw_in wsX50 [301, 299] (by decide +kernel) (by decide +kernel)

/-! TroughTreaty$State -/
set_option maxRecDepth 100000
def RX6 : String := "TroughTreaty$State"
def TX6 : u_T := fun k => match k with
  | 0 => ("TroughTreaty$State", "at", "[I", true)
  | 1 => ("TroughTreaty$State", "thirst", "[I", true)
  | 2 => ("TroughTreaty$State", "goal", "[I", true)
  | 3 => ("TroughTreaty$State", "hurt", "[I", true)
  | 4 => ("TroughTreaty$State", "drank", "[I", true)
  | 5 => ("TroughTreaty$State", "water", "[I", true)
  | 6 => ("TroughTreaty$State", "hour", "I", false)
  | 7 => ("TroughTreaty$State", "on", "I", false)
  | 8 => ("TroughTreaty$State", "fights", "I", false)
  | 9 => ("TroughTreaty$State", "talks", "I", false)
  | 10 => ("TroughTreaty$State", "drunk", "I", false)
  | 11 => ("TroughTreaty$State", "number", "I", false)
  | 12 => ("TroughTreaty$State", "what", "I", false)
  | 13 => ("TroughTreaty$State", "which", "I", false)
  | 14 => ("TroughTreaty$State", "fightPlace", "I", false)
  | 15 => ("TroughTreaty$State", "talked", "I", false)
  | 16 => ("TroughTreaty$State", "fought", "I", false)
  | _ => ("TroughTreaty$State", "this$0", "LTroughTreaty;", true)
def tyX6 : Nat → FieldType := fun k => match k with
  | 0 => .array .int
  | 1 => .array .int
  | 2 => .array .int
  | 3 => .array .int
  | 4 => .array .int
  | 5 => .array .int
  | 6 => .int
  | 7 => .int
  | 8 => .int
  | 9 => .int
  | 10 => .int
  | 11 => .int
  | 12 => .int
  | 13 => .int
  | 14 => .int
  | 15 => .int
  | 16 => .int
  | _ => .object "TroughTreaty"
abbrev wsX60 : List Cond := u_ws RX6 TX6 18
set_option maxRecDepth 100000 in
theorem nmX6 : ∀ a, a < 18 → ∀ b, b < 18 → a ≠ b → (TX6 a).2.1 ≠ (TX6 b).2.1 := by decide +kernel
set_option maxRecDepth 100000 in
theorem tyX6_ok : ∀ k, k < 18 → parseFieldDescriptor (TX6 k).2.2.1 = some (tyX6 k) := by decide +kernel
abbrev cX6_init : ByteArray := prog_17_method_1_code
def yX6_init : MethodName := ⟨RX6, "<init>", "(LTroughTreaty;)V"⟩
def dkwX6_init_2 : List UInt8 := [181, 0, 28, 42, 16, 6, 188, 10, 181, 0, 31, 177]
abbrev dktX6_init_2 : List UInt8 := dkwX6_init_2 ++ []
def dkwX6_init_1 : List UInt8 := [181, 0, 19, 42, 16, 6, 188, 10, 181, 0, 22, 42, 16, 6, 188, 10, 181, 0, 25, 42, 16, 6, 188, 10]
abbrev dktX6_init_1 : List UInt8 := dkwX6_init_1 ++ dktX6_init_2
def dkwX6_init_0 : List UInt8 := [42, 43, 181, 0, 3, 42, 183, 0, 9, 42, 16, 6, 188, 10, 181, 0, 15, 42, 16, 6, 188, 10]
abbrev dktX6_init_0 : List UInt8 := dkwX6_init_0 ++ dktX6_init_1
theorem dksX6_init_0 : cX6_init.data.toList.drop 0 = dktX6_init_0 := by decide +kernel
theorem dksX6_init_1 : cX6_init.data.toList.drop 22 = dktX6_init_1 := dk_seg dksX6_init_0 22 rfl rfl
theorem dksX6_init_2 : cX6_init.data.toList.drop 46 = dktX6_init_2 := dk_seg dksX6_init_1 24 rfl rfl
theorem dX6_init_0 : decode cX6_init 0 = .ok (.aload_n 0, 1) := dk_42 (dk_at dksX6_init_0 0 rfl rfl)
theorem dX6_init_1 : decode cX6_init 1 = .ok (.aload_n 1, 1) := dk_43 (dk_at dksX6_init_0 1 rfl rfl)
theorem dX6_init_2 : decode cX6_init 2 = .ok (.putfield 3, 3) := dk_181 0 3 (dk_at dksX6_init_0 2 rfl rfl)
theorem dX6_init_5 : decode cX6_init 5 = .ok (.aload_n 0, 1) := dk_42 (dk_at dksX6_init_0 5 rfl rfl)
theorem dX6_init_6 : decode cX6_init 6 = .ok (.invokespecial 9, 3) := dk_183 0 9 (dk_at dksX6_init_0 6 rfl rfl)
theorem dX6_init_9 : decode cX6_init 9 = .ok (.aload_n 0, 1) := dk_42 (dk_at dksX6_init_0 9 rfl rfl)
theorem dX6_init_10 : decode cX6_init 10 = .ok (.bipush 6, 2) := dk_16 6 (dk_at dksX6_init_0 10 rfl rfl)
theorem dX6_init_12 : decode cX6_init 12 = .ok (.newarray .int, 2) := dk_188_10 (dk_at dksX6_init_0 12 rfl rfl)
theorem dX6_init_14 : decode cX6_init 14 = .ok (.putfield 15, 3) := dk_181 0 15 (dk_at dksX6_init_0 14 rfl rfl)
theorem dX6_init_17 : decode cX6_init 17 = .ok (.aload_n 0, 1) := dk_42 (dk_at dksX6_init_0 17 rfl rfl)
theorem dX6_init_18 : decode cX6_init 18 = .ok (.bipush 6, 2) := dk_16 6 (dk_at dksX6_init_0 18 rfl rfl)
theorem dX6_init_20 : decode cX6_init 20 = .ok (.newarray .int, 2) := dk_188_10 (dk_at dksX6_init_0 20 rfl rfl)
theorem dX6_init_22 : decode cX6_init 22 = .ok (.putfield 19, 3) := dk_181 0 19 (dk_at dksX6_init_1 0 rfl rfl)
theorem dX6_init_25 : decode cX6_init 25 = .ok (.aload_n 0, 1) := dk_42 (dk_at dksX6_init_1 3 rfl rfl)
theorem dX6_init_26 : decode cX6_init 26 = .ok (.bipush 6, 2) := dk_16 6 (dk_at dksX6_init_1 4 rfl rfl)
theorem dX6_init_28 : decode cX6_init 28 = .ok (.newarray .int, 2) := dk_188_10 (dk_at dksX6_init_1 6 rfl rfl)
theorem dX6_init_30 : decode cX6_init 30 = .ok (.putfield 22, 3) := dk_181 0 22 (dk_at dksX6_init_1 8 rfl rfl)
theorem dX6_init_33 : decode cX6_init 33 = .ok (.aload_n 0, 1) := dk_42 (dk_at dksX6_init_1 11 rfl rfl)
theorem dX6_init_34 : decode cX6_init 34 = .ok (.bipush 6, 2) := dk_16 6 (dk_at dksX6_init_1 12 rfl rfl)
theorem dX6_init_36 : decode cX6_init 36 = .ok (.newarray .int, 2) := dk_188_10 (dk_at dksX6_init_1 14 rfl rfl)
theorem dX6_init_38 : decode cX6_init 38 = .ok (.putfield 25, 3) := dk_181 0 25 (dk_at dksX6_init_1 16 rfl rfl)
theorem dX6_init_41 : decode cX6_init 41 = .ok (.aload_n 0, 1) := dk_42 (dk_at dksX6_init_1 19 rfl rfl)
theorem dX6_init_42 : decode cX6_init 42 = .ok (.bipush 6, 2) := dk_16 6 (dk_at dksX6_init_1 20 rfl rfl)
theorem dX6_init_44 : decode cX6_init 44 = .ok (.newarray .int, 2) := dk_188_10 (dk_at dksX6_init_1 22 rfl rfl)
theorem dX6_init_46 : decode cX6_init 46 = .ok (.putfield 28, 3) := dk_181 0 28 (dk_at dksX6_init_2 0 rfl rfl)
theorem dX6_init_49 : decode cX6_init 49 = .ok (.aload_n 0, 1) := dk_42 (dk_at dksX6_init_2 3 rfl rfl)
theorem dX6_init_50 : decode cX6_init 50 = .ok (.bipush 6, 2) := dk_16 6 (dk_at dksX6_init_2 4 rfl rfl)
theorem dX6_init_52 : decode cX6_init 52 = .ok (.newarray .int, 2) := dk_188_10 (dk_at dksX6_init_2 6 rfl rfl)
theorem dX6_init_54 : decode cX6_init 54 = .ok (.putfield 31, 3) := dk_181 0 31 (dk_at dksX6_init_2 8 rfl rfl)
theorem dX6_init_57 : decode cX6_init 57 = .ok (.return_, 1) := dk_177 (dk_at dksX6_init_2 11 rfl rfl)
abbrev cX6_begin : ByteArray := prog_17_method_2_code
def yX6_begin : MethodName := ⟨RX6, "begin", "()V"⟩
def dkwX6_begin_7 : List UInt8 := [3, 181, 0, 91, 42, 3, 181, 0, 94, 177]
abbrev dktX6_begin_7 : List UInt8 := dkwX6_begin_7 ++ []
def dkwX6_begin_6 : List UInt8 := [3, 181, 0, 73, 42, 42, 180, 0, 3, 180, 0, 76, 180, 0, 80, 181, 0, 85, 42, 2, 181, 0, 88, 42]
abbrev dktX6_begin_6 : List UInt8 := dkwX6_begin_6 ++ dktX6_begin_7
def dkwX6_begin_5 : List UInt8 := [42, 180, 0, 3, 182, 0, 34, 120, 4, 100, 181, 0, 64, 42, 3, 181, 0, 67, 42, 3, 181, 0, 70, 42]
abbrev dktX6_begin_5 : List UInt8 := dkwX6_begin_5 ++ dktX6_begin_6
def dkwX6_begin_4 : List UInt8 := [180, 0, 3, 27, 182, 0, 53, 180, 0, 57, 79, 132, 1, 1, 167, 255, 225, 42, 3, 181, 0, 61, 42, 4]
abbrev dktX6_begin_4 : List UInt8 := dkwX6_begin_4 ++ dktX6_begin_5
def dkwX6_begin_3 : List UInt8 := [167, 255, 187, 3, 60, 27, 42, 180, 0, 3, 182, 0, 50, 162, 0, 26, 42, 180, 0, 31, 27, 42]
abbrev dktX6_begin_3 : List UInt8 := dkwX6_begin_3 ++ dktX6_begin_4
def dkwX6_begin_2 : List UInt8 := [42, 180, 0, 22, 27, 2, 79, 42, 180, 0, 25, 27, 3, 79, 42, 180, 0, 28, 27, 3, 79, 132, 1, 1]
abbrev dktX6_begin_2 : List UInt8 := dkwX6_begin_2 ++ dktX6_begin_3
def dkwX6_begin_1 : List UInt8 := [182, 0, 38, 180, 0, 42, 79, 42, 180, 0, 19, 27, 42, 180, 0, 3, 27, 182, 0, 38, 180, 0, 48, 79]
abbrev dktX6_begin_1 : List UInt8 := dkwX6_begin_1 ++ dktX6_begin_2
def dkwX6_begin_0 : List UInt8 := [3, 60, 27, 42, 180, 0, 3, 182, 0, 34, 162, 0, 64, 42, 180, 0, 15, 27, 42, 180, 0, 3, 27]
abbrev dktX6_begin_0 : List UInt8 := dkwX6_begin_0 ++ dktX6_begin_1
theorem dksX6_begin_0 : cX6_begin.data.toList.drop 0 = dktX6_begin_0 := by decide +kernel
theorem dksX6_begin_1 : cX6_begin.data.toList.drop 23 = dktX6_begin_1 := dk_seg dksX6_begin_0 23 rfl rfl
theorem dksX6_begin_2 : cX6_begin.data.toList.drop 47 = dktX6_begin_2 := dk_seg dksX6_begin_1 24 rfl rfl
theorem dksX6_begin_3 : cX6_begin.data.toList.drop 71 = dktX6_begin_3 := dk_seg dksX6_begin_2 24 rfl rfl
theorem dksX6_begin_4 : cX6_begin.data.toList.drop 93 = dktX6_begin_4 := dk_seg dksX6_begin_3 22 rfl rfl
theorem dksX6_begin_5 : cX6_begin.data.toList.drop 117 = dktX6_begin_5 := dk_seg dksX6_begin_4 24 rfl rfl
theorem dksX6_begin_6 : cX6_begin.data.toList.drop 141 = dktX6_begin_6 := dk_seg dksX6_begin_5 24 rfl rfl
theorem dksX6_begin_7 : cX6_begin.data.toList.drop 165 = dktX6_begin_7 := dk_seg dksX6_begin_6 24 rfl rfl
theorem dX6_begin_0 : decode cX6_begin 0 = .ok (.iconst 0, 1) := dk_3 (dk_at dksX6_begin_0 0 rfl rfl)
theorem dX6_begin_1 : decode cX6_begin 1 = .ok (.istore_n 1, 1) := dk_60 (dk_at dksX6_begin_0 1 rfl rfl)
theorem dX6_begin_2 : decode cX6_begin 2 = .ok (.iload_n 1, 1) := dk_27 (dk_at dksX6_begin_0 2 rfl rfl)
theorem dX6_begin_3 : decode cX6_begin 3 = .ok (.aload_n 0, 1) := dk_42 (dk_at dksX6_begin_0 3 rfl rfl)
theorem dX6_begin_4 : decode cX6_begin 4 = .ok (.getfield 3, 3) := dk_180 0 3 (dk_at dksX6_begin_0 4 rfl rfl)
theorem dX6_begin_7 : decode cX6_begin 7 = .ok (.invokevirtual 34, 3) := dk_182 0 34 (dk_at dksX6_begin_0 7 rfl rfl)
theorem dX6_begin_10 : decode cX6_begin 10 = .ok (.if_icmp .ge 64, 3) := dk_162 0 64 (dk_at dksX6_begin_0 10 rfl rfl)
theorem dX6_begin_13 : decode cX6_begin 13 = .ok (.aload_n 0, 1) := dk_42 (dk_at dksX6_begin_0 13 rfl rfl)
theorem dX6_begin_14 : decode cX6_begin 14 = .ok (.getfield 15, 3) := dk_180 0 15 (dk_at dksX6_begin_0 14 rfl rfl)
theorem dX6_begin_17 : decode cX6_begin 17 = .ok (.iload_n 1, 1) := dk_27 (dk_at dksX6_begin_0 17 rfl rfl)
theorem dX6_begin_18 : decode cX6_begin 18 = .ok (.aload_n 0, 1) := dk_42 (dk_at dksX6_begin_0 18 rfl rfl)
theorem dX6_begin_19 : decode cX6_begin 19 = .ok (.getfield 3, 3) := dk_180 0 3 (dk_at dksX6_begin_0 19 rfl rfl)
theorem dX6_begin_22 : decode cX6_begin 22 = .ok (.iload_n 1, 1) := dk_27 (dk_at dksX6_begin_0 22 rfl rfl)
theorem dX6_begin_23 : decode cX6_begin 23 = .ok (.invokevirtual 38, 3) := dk_182 0 38 (dk_at dksX6_begin_1 0 rfl rfl)
theorem dX6_begin_26 : decode cX6_begin 26 = .ok (.getfield 42, 3) := dk_180 0 42 (dk_at dksX6_begin_1 3 rfl rfl)
theorem dX6_begin_29 : decode cX6_begin 29 = .ok (.iastore, 1) := dk_79 (dk_at dksX6_begin_1 6 rfl rfl)
theorem dX6_begin_30 : decode cX6_begin 30 = .ok (.aload_n 0, 1) := dk_42 (dk_at dksX6_begin_1 7 rfl rfl)
theorem dX6_begin_31 : decode cX6_begin 31 = .ok (.getfield 19, 3) := dk_180 0 19 (dk_at dksX6_begin_1 8 rfl rfl)
theorem dX6_begin_34 : decode cX6_begin 34 = .ok (.iload_n 1, 1) := dk_27 (dk_at dksX6_begin_1 11 rfl rfl)
theorem dX6_begin_35 : decode cX6_begin 35 = .ok (.aload_n 0, 1) := dk_42 (dk_at dksX6_begin_1 12 rfl rfl)
theorem dX6_begin_36 : decode cX6_begin 36 = .ok (.getfield 3, 3) := dk_180 0 3 (dk_at dksX6_begin_1 13 rfl rfl)
theorem dX6_begin_39 : decode cX6_begin 39 = .ok (.iload_n 1, 1) := dk_27 (dk_at dksX6_begin_1 16 rfl rfl)
theorem dX6_begin_40 : decode cX6_begin 40 = .ok (.invokevirtual 38, 3) := dk_182 0 38 (dk_at dksX6_begin_1 17 rfl rfl)
theorem dX6_begin_43 : decode cX6_begin 43 = .ok (.getfield 48, 3) := dk_180 0 48 (dk_at dksX6_begin_1 20 rfl rfl)
theorem dX6_begin_46 : decode cX6_begin 46 = .ok (.iastore, 1) := dk_79 (dk_at dksX6_begin_1 23 rfl rfl)
theorem dX6_begin_47 : decode cX6_begin 47 = .ok (.aload_n 0, 1) := dk_42 (dk_at dksX6_begin_2 0 rfl rfl)
theorem dX6_begin_48 : decode cX6_begin 48 = .ok (.getfield 22, 3) := dk_180 0 22 (dk_at dksX6_begin_2 1 rfl rfl)
theorem dX6_begin_51 : decode cX6_begin 51 = .ok (.iload_n 1, 1) := dk_27 (dk_at dksX6_begin_2 4 rfl rfl)
theorem dX6_begin_52 : decode cX6_begin 52 = .ok (.iconst (-1), 1) := dk_2 (dk_at dksX6_begin_2 5 rfl rfl)
theorem dX6_begin_53 : decode cX6_begin 53 = .ok (.iastore, 1) := dk_79 (dk_at dksX6_begin_2 6 rfl rfl)
theorem dX6_begin_54 : decode cX6_begin 54 = .ok (.aload_n 0, 1) := dk_42 (dk_at dksX6_begin_2 7 rfl rfl)
theorem dX6_begin_55 : decode cX6_begin 55 = .ok (.getfield 25, 3) := dk_180 0 25 (dk_at dksX6_begin_2 8 rfl rfl)
theorem dX6_begin_58 : decode cX6_begin 58 = .ok (.iload_n 1, 1) := dk_27 (dk_at dksX6_begin_2 11 rfl rfl)
theorem dX6_begin_59 : decode cX6_begin 59 = .ok (.iconst 0, 1) := dk_3 (dk_at dksX6_begin_2 12 rfl rfl)
theorem dX6_begin_60 : decode cX6_begin 60 = .ok (.iastore, 1) := dk_79 (dk_at dksX6_begin_2 13 rfl rfl)
theorem dX6_begin_61 : decode cX6_begin 61 = .ok (.aload_n 0, 1) := dk_42 (dk_at dksX6_begin_2 14 rfl rfl)
theorem dX6_begin_62 : decode cX6_begin 62 = .ok (.getfield 28, 3) := dk_180 0 28 (dk_at dksX6_begin_2 15 rfl rfl)
theorem dX6_begin_65 : decode cX6_begin 65 = .ok (.iload_n 1, 1) := dk_27 (dk_at dksX6_begin_2 18 rfl rfl)
theorem dX6_begin_66 : decode cX6_begin 66 = .ok (.iconst 0, 1) := dk_3 (dk_at dksX6_begin_2 19 rfl rfl)
theorem dX6_begin_67 : decode cX6_begin 67 = .ok (.iastore, 1) := dk_79 (dk_at dksX6_begin_2 20 rfl rfl)
theorem dX6_begin_68 : decode cX6_begin 68 = .ok (.iinc 1 1, 3) := dk_132 1 1 (dk_at dksX6_begin_2 21 rfl rfl)
theorem dX6_begin_71 : decode cX6_begin 71 = .ok (.goto (-69), 3) := dk_167 255 187 (dk_at dksX6_begin_3 0 rfl rfl)
theorem dX6_begin_74 : decode cX6_begin 74 = .ok (.iconst 0, 1) := dk_3 (dk_at dksX6_begin_3 3 rfl rfl)
theorem dX6_begin_75 : decode cX6_begin 75 = .ok (.istore_n 1, 1) := dk_60 (dk_at dksX6_begin_3 4 rfl rfl)
theorem dX6_begin_76 : decode cX6_begin 76 = .ok (.iload_n 1, 1) := dk_27 (dk_at dksX6_begin_3 5 rfl rfl)
theorem dX6_begin_77 : decode cX6_begin 77 = .ok (.aload_n 0, 1) := dk_42 (dk_at dksX6_begin_3 6 rfl rfl)
theorem dX6_begin_78 : decode cX6_begin 78 = .ok (.getfield 3, 3) := dk_180 0 3 (dk_at dksX6_begin_3 7 rfl rfl)
theorem dX6_begin_81 : decode cX6_begin 81 = .ok (.invokevirtual 50, 3) := dk_182 0 50 (dk_at dksX6_begin_3 10 rfl rfl)
theorem dX6_begin_84 : decode cX6_begin 84 = .ok (.if_icmp .ge 26, 3) := dk_162 0 26 (dk_at dksX6_begin_3 13 rfl rfl)
theorem dX6_begin_87 : decode cX6_begin 87 = .ok (.aload_n 0, 1) := dk_42 (dk_at dksX6_begin_3 16 rfl rfl)
theorem dX6_begin_88 : decode cX6_begin 88 = .ok (.getfield 31, 3) := dk_180 0 31 (dk_at dksX6_begin_3 17 rfl rfl)
theorem dX6_begin_91 : decode cX6_begin 91 = .ok (.iload_n 1, 1) := dk_27 (dk_at dksX6_begin_3 20 rfl rfl)
theorem dX6_begin_92 : decode cX6_begin 92 = .ok (.aload_n 0, 1) := dk_42 (dk_at dksX6_begin_3 21 rfl rfl)
theorem dX6_begin_93 : decode cX6_begin 93 = .ok (.getfield 3, 3) := dk_180 0 3 (dk_at dksX6_begin_4 0 rfl rfl)
theorem dX6_begin_96 : decode cX6_begin 96 = .ok (.iload_n 1, 1) := dk_27 (dk_at dksX6_begin_4 3 rfl rfl)
theorem dX6_begin_97 : decode cX6_begin 97 = .ok (.invokevirtual 53, 3) := dk_182 0 53 (dk_at dksX6_begin_4 4 rfl rfl)
theorem dX6_begin_100 : decode cX6_begin 100 = .ok (.getfield 57, 3) := dk_180 0 57 (dk_at dksX6_begin_4 7 rfl rfl)
theorem dX6_begin_103 : decode cX6_begin 103 = .ok (.iastore, 1) := dk_79 (dk_at dksX6_begin_4 10 rfl rfl)
theorem dX6_begin_104 : decode cX6_begin 104 = .ok (.iinc 1 1, 3) := dk_132 1 1 (dk_at dksX6_begin_4 11 rfl rfl)
theorem dX6_begin_107 : decode cX6_begin 107 = .ok (.goto (-31), 3) := dk_167 255 225 (dk_at dksX6_begin_4 14 rfl rfl)
theorem dX6_begin_110 : decode cX6_begin 110 = .ok (.aload_n 0, 1) := dk_42 (dk_at dksX6_begin_4 17 rfl rfl)
theorem dX6_begin_111 : decode cX6_begin 111 = .ok (.iconst 0, 1) := dk_3 (dk_at dksX6_begin_4 18 rfl rfl)
theorem dX6_begin_112 : decode cX6_begin 112 = .ok (.putfield 61, 3) := dk_181 0 61 (dk_at dksX6_begin_4 19 rfl rfl)
theorem dX6_begin_115 : decode cX6_begin 115 = .ok (.aload_n 0, 1) := dk_42 (dk_at dksX6_begin_4 22 rfl rfl)
theorem dX6_begin_116 : decode cX6_begin 116 = .ok (.iconst 1, 1) := dk_4 (dk_at dksX6_begin_4 23 rfl rfl)
theorem dX6_begin_117 : decode cX6_begin 117 = .ok (.aload_n 0, 1) := dk_42 (dk_at dksX6_begin_5 0 rfl rfl)
theorem dX6_begin_118 : decode cX6_begin 118 = .ok (.getfield 3, 3) := dk_180 0 3 (dk_at dksX6_begin_5 1 rfl rfl)
theorem dX6_begin_121 : decode cX6_begin 121 = .ok (.invokevirtual 34, 3) := dk_182 0 34 (dk_at dksX6_begin_5 4 rfl rfl)
theorem dX6_begin_124 : decode cX6_begin 124 = .ok (.ishl, 1) := dk_120 (dk_at dksX6_begin_5 7 rfl rfl)
theorem dX6_begin_125 : decode cX6_begin 125 = .ok (.iconst 1, 1) := dk_4 (dk_at dksX6_begin_5 8 rfl rfl)
theorem dX6_begin_126 : decode cX6_begin 126 = .ok (.isub, 1) := dk_100 (dk_at dksX6_begin_5 9 rfl rfl)
theorem dX6_begin_127 : decode cX6_begin 127 = .ok (.putfield 64, 3) := dk_181 0 64 (dk_at dksX6_begin_5 10 rfl rfl)
theorem dX6_begin_130 : decode cX6_begin 130 = .ok (.aload_n 0, 1) := dk_42 (dk_at dksX6_begin_5 13 rfl rfl)
theorem dX6_begin_131 : decode cX6_begin 131 = .ok (.iconst 0, 1) := dk_3 (dk_at dksX6_begin_5 14 rfl rfl)
theorem dX6_begin_132 : decode cX6_begin 132 = .ok (.putfield 67, 3) := dk_181 0 67 (dk_at dksX6_begin_5 15 rfl rfl)
theorem dX6_begin_135 : decode cX6_begin 135 = .ok (.aload_n 0, 1) := dk_42 (dk_at dksX6_begin_5 18 rfl rfl)
theorem dX6_begin_136 : decode cX6_begin 136 = .ok (.iconst 0, 1) := dk_3 (dk_at dksX6_begin_5 19 rfl rfl)
theorem dX6_begin_137 : decode cX6_begin 137 = .ok (.putfield 70, 3) := dk_181 0 70 (dk_at dksX6_begin_5 20 rfl rfl)
theorem dX6_begin_140 : decode cX6_begin 140 = .ok (.aload_n 0, 1) := dk_42 (dk_at dksX6_begin_5 23 rfl rfl)
theorem dX6_begin_141 : decode cX6_begin 141 = .ok (.iconst 0, 1) := dk_3 (dk_at dksX6_begin_6 0 rfl rfl)
theorem dX6_begin_142 : decode cX6_begin 142 = .ok (.putfield 73, 3) := dk_181 0 73 (dk_at dksX6_begin_6 1 rfl rfl)
theorem dX6_begin_145 : decode cX6_begin 145 = .ok (.aload_n 0, 1) := dk_42 (dk_at dksX6_begin_6 4 rfl rfl)
theorem dX6_begin_146 : decode cX6_begin 146 = .ok (.aload_n 0, 1) := dk_42 (dk_at dksX6_begin_6 5 rfl rfl)
theorem dX6_begin_147 : decode cX6_begin 147 = .ok (.getfield 3, 3) := dk_180 0 3 (dk_at dksX6_begin_6 6 rfl rfl)
theorem dX6_begin_150 : decode cX6_begin 150 = .ok (.getfield 76, 3) := dk_180 0 76 (dk_at dksX6_begin_6 9 rfl rfl)
theorem dX6_begin_153 : decode cX6_begin 153 = .ok (.getfield 80, 3) := dk_180 0 80 (dk_at dksX6_begin_6 12 rfl rfl)
theorem dX6_begin_156 : decode cX6_begin 156 = .ok (.putfield 85, 3) := dk_181 0 85 (dk_at dksX6_begin_6 15 rfl rfl)
theorem dX6_begin_159 : decode cX6_begin 159 = .ok (.aload_n 0, 1) := dk_42 (dk_at dksX6_begin_6 18 rfl rfl)
theorem dX6_begin_160 : decode cX6_begin 160 = .ok (.iconst (-1), 1) := dk_2 (dk_at dksX6_begin_6 19 rfl rfl)
theorem dX6_begin_161 : decode cX6_begin 161 = .ok (.putfield 88, 3) := dk_181 0 88 (dk_at dksX6_begin_6 20 rfl rfl)
theorem dX6_begin_164 : decode cX6_begin 164 = .ok (.aload_n 0, 1) := dk_42 (dk_at dksX6_begin_6 23 rfl rfl)
theorem dX6_begin_165 : decode cX6_begin 165 = .ok (.iconst 0, 1) := dk_3 (dk_at dksX6_begin_7 0 rfl rfl)
theorem dX6_begin_166 : decode cX6_begin 166 = .ok (.putfield 91, 3) := dk_181 0 91 (dk_at dksX6_begin_7 1 rfl rfl)
theorem dX6_begin_169 : decode cX6_begin 169 = .ok (.aload_n 0, 1) := dk_42 (dk_at dksX6_begin_7 4 rfl rfl)
theorem dX6_begin_170 : decode cX6_begin 170 = .ok (.iconst 0, 1) := dk_3 (dk_at dksX6_begin_7 5 rfl rfl)
theorem dX6_begin_171 : decode cX6_begin 171 = .ok (.putfield 94, 3) := dk_181 0 94 (dk_at dksX6_begin_7 6 rfl rfl)
theorem dX6_begin_174 : decode cX6_begin 174 = .ok (.return_, 1) := dk_177 (dk_at dksX6_begin_7 9 rfl rfl)
abbrev cX6_isOn : ByteArray := prog_17_method_5_code
def yX6_isOn : MethodName := ⟨RX6, "isOn", "(I)Z"⟩
def dkwX6_isOn_1 : List UInt8 := [27, 159, 0, 7, 4, 167, 0, 4, 3, 172]
abbrev dktX6_isOn_1 : List UInt8 := dkwX6_isOn_1 ++ []
def dkwX6_isOn_0 : List UInt8 := [42, 180, 0, 64, 27, 122, 4, 126, 4, 160, 0, 23, 42, 180, 0, 88, 5, 160, 0, 11, 42, 180, 0, 97]
abbrev dktX6_isOn_0 : List UInt8 := dkwX6_isOn_0 ++ dktX6_isOn_1
theorem dksX6_isOn_0 : cX6_isOn.data.toList.drop 0 = dktX6_isOn_0 := by decide +kernel
theorem dksX6_isOn_1 : cX6_isOn.data.toList.drop 24 = dktX6_isOn_1 := dk_seg dksX6_isOn_0 24 rfl rfl
theorem dX6_isOn_0 : decode cX6_isOn 0 = .ok (.aload_n 0, 1) := dk_42 (dk_at dksX6_isOn_0 0 rfl rfl)
theorem dX6_isOn_1 : decode cX6_isOn 1 = .ok (.getfield 64, 3) := dk_180 0 64 (dk_at dksX6_isOn_0 1 rfl rfl)
theorem dX6_isOn_4 : decode cX6_isOn 4 = .ok (.iload_n 1, 1) := dk_27 (dk_at dksX6_isOn_0 4 rfl rfl)
theorem dX6_isOn_5 : decode cX6_isOn 5 = .ok (.ishr, 1) := dk_122 (dk_at dksX6_isOn_0 5 rfl rfl)
theorem dX6_isOn_6 : decode cX6_isOn 6 = .ok (.iconst 1, 1) := dk_4 (dk_at dksX6_isOn_0 6 rfl rfl)
theorem dX6_isOn_7 : decode cX6_isOn 7 = .ok (.iand, 1) := dk_126 (dk_at dksX6_isOn_0 7 rfl rfl)
theorem dX6_isOn_8 : decode cX6_isOn 8 = .ok (.iconst 1, 1) := dk_4 (dk_at dksX6_isOn_0 8 rfl rfl)
theorem dX6_isOn_9 : decode cX6_isOn 9 = .ok (.if_icmp .ne 23, 3) := dk_160 0 23 (dk_at dksX6_isOn_0 9 rfl rfl)
theorem dX6_isOn_12 : decode cX6_isOn 12 = .ok (.aload_n 0, 1) := dk_42 (dk_at dksX6_isOn_0 12 rfl rfl)
theorem dX6_isOn_13 : decode cX6_isOn 13 = .ok (.getfield 88, 3) := dk_180 0 88 (dk_at dksX6_isOn_0 13 rfl rfl)
theorem dX6_isOn_16 : decode cX6_isOn 16 = .ok (.iconst 2, 1) := dk_5 (dk_at dksX6_isOn_0 16 rfl rfl)
theorem dX6_isOn_17 : decode cX6_isOn 17 = .ok (.if_icmp .ne 11, 3) := dk_160 0 11 (dk_at dksX6_isOn_0 17 rfl rfl)
theorem dX6_isOn_20 : decode cX6_isOn 20 = .ok (.aload_n 0, 1) := dk_42 (dk_at dksX6_isOn_0 20 rfl rfl)
theorem dX6_isOn_21 : decode cX6_isOn 21 = .ok (.getfield 97, 3) := dk_180 0 97 (dk_at dksX6_isOn_0 21 rfl rfl)
theorem dX6_isOn_24 : decode cX6_isOn 24 = .ok (.iload_n 1, 1) := dk_27 (dk_at dksX6_isOn_1 0 rfl rfl)
theorem dX6_isOn_25 : decode cX6_isOn 25 = .ok (.if_icmp .eq 7, 3) := dk_159 0 7 (dk_at dksX6_isOn_1 1 rfl rfl)
theorem dX6_isOn_28 : decode cX6_isOn 28 = .ok (.iconst 1, 1) := dk_4 (dk_at dksX6_isOn_1 4 rfl rfl)
theorem dX6_isOn_29 : decode cX6_isOn 29 = .ok (.goto 4, 3) := dk_167 0 4 (dk_at dksX6_isOn_1 5 rfl rfl)
theorem dX6_isOn_32 : decode cX6_isOn 32 = .ok (.iconst 0, 1) := dk_3 (dk_at dksX6_isOn_1 8 rfl rfl)
theorem dX6_isOn_33 : decode cX6_isOn 33 = .ok (.ireturn, 1) := dk_172 (dk_at dksX6_isOn_1 9 rfl rfl)
abbrev cX6_name : ByteArray := prog_17_method_8_code
def yX6_name : MethodName := ⟨RX6, "name", "(I)V"⟩
def dkwX6_name_7 : List UInt8 := [180, 0, 3, 180, 0, 115, 16, 6, 42, 180, 0, 61, 133, 80, 177]
abbrev dktX6_name_7 : List UInt8 := dkwX6_name_7 ++ []
def dkwX6_name_6 : List UInt8 := [46, 100, 184, 0, 127, 133, 80, 42, 180, 0, 3, 180, 0, 115, 8, 42, 180, 0, 25, 27, 46, 133, 80, 42]
abbrev dktX6_name_6 : List UInt8 := dkwX6_name_6 ++ dktX6_name_7
def dkwX6_name_5 : List UInt8 := [167, 0, 30, 42, 180, 0, 3, 42, 180, 0, 22, 27, 46, 182, 0, 53, 180, 0, 126, 42, 180, 0, 15, 27]
abbrev dktX6_name_5 : List UInt8 := dkwX6_name_5 ++ dktX6_name_6
def dkwX6_name_4 : List UInt8 := [46, 133, 80, 42, 180, 0, 3, 180, 0, 115, 7, 42, 180, 0, 22, 27, 46, 2, 160, 0, 7, 9]
abbrev dktX6_name_4 : List UInt8 := dkwX6_name_4 ++ dktX6_name_5
def dkwX6_name_3 : List UInt8 := [133, 80, 42, 180, 0, 3, 180, 0, 115, 6, 28, 2, 160, 0, 7, 9, 167, 0, 10, 42, 180, 0, 31, 28]
abbrev dktX6_name_3 : List UInt8 := dkwX6_name_3 ++ dktX6_name_4
def dkwX6_name_2 : List UInt8 := [182, 0, 119, 133, 80, 42, 180, 0, 3, 180, 0, 115, 5, 42, 180, 0, 3, 27, 182, 0, 38, 180, 0, 123]
abbrev dktX6_name_2 : List UInt8 := dkwX6_name_2 ++ dktX6_name_3
def dkwX6_name_1 : List UInt8 := [180, 0, 115, 3, 42, 180, 0, 19, 27, 46, 133, 80, 42, 180, 0, 3, 180, 0, 115, 4, 42, 27]
abbrev dktX6_name_1 : List UInt8 := dkwX6_name_1 ++ dktX6_name_2
def dkwX6_name_0 : List UInt8 := [42, 180, 0, 3, 180, 0, 76, 180, 0, 107, 42, 180, 0, 15, 27, 46, 184, 0, 110, 61, 42, 180, 0, 3]
abbrev dktX6_name_0 : List UInt8 := dkwX6_name_0 ++ dktX6_name_1
theorem dksX6_name_0 : cX6_name.data.toList.drop 0 = dktX6_name_0 := by decide +kernel
theorem dksX6_name_1 : cX6_name.data.toList.drop 24 = dktX6_name_1 := dk_seg dksX6_name_0 24 rfl rfl
theorem dksX6_name_2 : cX6_name.data.toList.drop 46 = dktX6_name_2 := dk_seg dksX6_name_1 22 rfl rfl
theorem dksX6_name_3 : cX6_name.data.toList.drop 70 = dktX6_name_3 := dk_seg dksX6_name_2 24 rfl rfl
theorem dksX6_name_4 : cX6_name.data.toList.drop 94 = dktX6_name_4 := dk_seg dksX6_name_3 24 rfl rfl
theorem dksX6_name_5 : cX6_name.data.toList.drop 116 = dktX6_name_5 := dk_seg dksX6_name_4 22 rfl rfl
theorem dksX6_name_6 : cX6_name.data.toList.drop 140 = dktX6_name_6 := dk_seg dksX6_name_5 24 rfl rfl
theorem dksX6_name_7 : cX6_name.data.toList.drop 164 = dktX6_name_7 := dk_seg dksX6_name_6 24 rfl rfl
theorem dX6_name_0 : decode cX6_name 0 = .ok (.aload_n 0, 1) := dk_42 (dk_at dksX6_name_0 0 rfl rfl)
theorem dX6_name_1 : decode cX6_name 1 = .ok (.getfield 3, 3) := dk_180 0 3 (dk_at dksX6_name_0 1 rfl rfl)
theorem dX6_name_4 : decode cX6_name 4 = .ok (.getfield 76, 3) := dk_180 0 76 (dk_at dksX6_name_0 4 rfl rfl)
theorem dX6_name_7 : decode cX6_name 7 = .ok (.getfield 107, 3) := dk_180 0 107 (dk_at dksX6_name_0 7 rfl rfl)
theorem dX6_name_10 : decode cX6_name 10 = .ok (.aload_n 0, 1) := dk_42 (dk_at dksX6_name_0 10 rfl rfl)
theorem dX6_name_11 : decode cX6_name 11 = .ok (.getfield 15, 3) := dk_180 0 15 (dk_at dksX6_name_0 11 rfl rfl)
theorem dX6_name_14 : decode cX6_name 14 = .ok (.iload_n 1, 1) := dk_27 (dk_at dksX6_name_0 14 rfl rfl)
theorem dX6_name_15 : decode cX6_name 15 = .ok (.iaload, 1) := dk_46 (dk_at dksX6_name_0 15 rfl rfl)
theorem dX6_name_16 : decode cX6_name 16 = .ok (.invokestatic 110, 3) := dk_184 0 110 (dk_at dksX6_name_0 16 rfl rfl)
theorem dX6_name_19 : decode cX6_name 19 = .ok (.istore_n 2, 1) := dk_61 (dk_at dksX6_name_0 19 rfl rfl)
theorem dX6_name_20 : decode cX6_name 20 = .ok (.aload_n 0, 1) := dk_42 (dk_at dksX6_name_0 20 rfl rfl)
theorem dX6_name_21 : decode cX6_name 21 = .ok (.getfield 3, 3) := dk_180 0 3 (dk_at dksX6_name_0 21 rfl rfl)
theorem dX6_name_24 : decode cX6_name 24 = .ok (.getfield 115, 3) := dk_180 0 115 (dk_at dksX6_name_1 0 rfl rfl)
theorem dX6_name_27 : decode cX6_name 27 = .ok (.iconst 0, 1) := dk_3 (dk_at dksX6_name_1 3 rfl rfl)
theorem dX6_name_28 : decode cX6_name 28 = .ok (.aload_n 0, 1) := dk_42 (dk_at dksX6_name_1 4 rfl rfl)
theorem dX6_name_29 : decode cX6_name 29 = .ok (.getfield 19, 3) := dk_180 0 19 (dk_at dksX6_name_1 5 rfl rfl)
theorem dX6_name_32 : decode cX6_name 32 = .ok (.iload_n 1, 1) := dk_27 (dk_at dksX6_name_1 8 rfl rfl)
theorem dX6_name_33 : decode cX6_name 33 = .ok (.iaload, 1) := dk_46 (dk_at dksX6_name_1 9 rfl rfl)
theorem dX6_name_34 : decode cX6_name 34 = .ok (.i2l, 1) := dk_133 (dk_at dksX6_name_1 10 rfl rfl)
theorem dX6_name_35 : decode cX6_name 35 = .ok (.lastore, 1) := dk_80 (dk_at dksX6_name_1 11 rfl rfl)
theorem dX6_name_36 : decode cX6_name 36 = .ok (.aload_n 0, 1) := dk_42 (dk_at dksX6_name_1 12 rfl rfl)
theorem dX6_name_37 : decode cX6_name 37 = .ok (.getfield 3, 3) := dk_180 0 3 (dk_at dksX6_name_1 13 rfl rfl)
theorem dX6_name_40 : decode cX6_name 40 = .ok (.getfield 115, 3) := dk_180 0 115 (dk_at dksX6_name_1 16 rfl rfl)
theorem dX6_name_43 : decode cX6_name 43 = .ok (.iconst 1, 1) := dk_4 (dk_at dksX6_name_1 19 rfl rfl)
theorem dX6_name_44 : decode cX6_name 44 = .ok (.aload_n 0, 1) := dk_42 (dk_at dksX6_name_1 20 rfl rfl)
theorem dX6_name_45 : decode cX6_name 45 = .ok (.iload_n 1, 1) := dk_27 (dk_at dksX6_name_1 21 rfl rfl)
theorem dX6_name_46 : decode cX6_name 46 = .ok (.invokevirtual 119, 3) := dk_182 0 119 (dk_at dksX6_name_2 0 rfl rfl)
theorem dX6_name_49 : decode cX6_name 49 = .ok (.i2l, 1) := dk_133 (dk_at dksX6_name_2 3 rfl rfl)
theorem dX6_name_50 : decode cX6_name 50 = .ok (.lastore, 1) := dk_80 (dk_at dksX6_name_2 4 rfl rfl)
theorem dX6_name_51 : decode cX6_name 51 = .ok (.aload_n 0, 1) := dk_42 (dk_at dksX6_name_2 5 rfl rfl)
theorem dX6_name_52 : decode cX6_name 52 = .ok (.getfield 3, 3) := dk_180 0 3 (dk_at dksX6_name_2 6 rfl rfl)
theorem dX6_name_55 : decode cX6_name 55 = .ok (.getfield 115, 3) := dk_180 0 115 (dk_at dksX6_name_2 9 rfl rfl)
theorem dX6_name_58 : decode cX6_name 58 = .ok (.iconst 2, 1) := dk_5 (dk_at dksX6_name_2 12 rfl rfl)
theorem dX6_name_59 : decode cX6_name 59 = .ok (.aload_n 0, 1) := dk_42 (dk_at dksX6_name_2 13 rfl rfl)
theorem dX6_name_60 : decode cX6_name 60 = .ok (.getfield 3, 3) := dk_180 0 3 (dk_at dksX6_name_2 14 rfl rfl)
theorem dX6_name_63 : decode cX6_name 63 = .ok (.iload_n 1, 1) := dk_27 (dk_at dksX6_name_2 17 rfl rfl)
theorem dX6_name_64 : decode cX6_name 64 = .ok (.invokevirtual 38, 3) := dk_182 0 38 (dk_at dksX6_name_2 18 rfl rfl)
theorem dX6_name_67 : decode cX6_name 67 = .ok (.getfield 123, 3) := dk_180 0 123 (dk_at dksX6_name_2 21 rfl rfl)
theorem dX6_name_70 : decode cX6_name 70 = .ok (.i2l, 1) := dk_133 (dk_at dksX6_name_3 0 rfl rfl)
theorem dX6_name_71 : decode cX6_name 71 = .ok (.lastore, 1) := dk_80 (dk_at dksX6_name_3 1 rfl rfl)
theorem dX6_name_72 : decode cX6_name 72 = .ok (.aload_n 0, 1) := dk_42 (dk_at dksX6_name_3 2 rfl rfl)
theorem dX6_name_73 : decode cX6_name 73 = .ok (.getfield 3, 3) := dk_180 0 3 (dk_at dksX6_name_3 3 rfl rfl)
theorem dX6_name_76 : decode cX6_name 76 = .ok (.getfield 115, 3) := dk_180 0 115 (dk_at dksX6_name_3 6 rfl rfl)
theorem dX6_name_79 : decode cX6_name 79 = .ok (.iconst 3, 1) := dk_6 (dk_at dksX6_name_3 9 rfl rfl)
theorem dX6_name_80 : decode cX6_name 80 = .ok (.iload_n 2, 1) := dk_28 (dk_at dksX6_name_3 10 rfl rfl)
theorem dX6_name_81 : decode cX6_name 81 = .ok (.iconst (-1), 1) := dk_2 (dk_at dksX6_name_3 11 rfl rfl)
theorem dX6_name_82 : decode cX6_name 82 = .ok (.if_icmp .ne 7, 3) := dk_160 0 7 (dk_at dksX6_name_3 12 rfl rfl)
theorem dX6_name_85 : decode cX6_name 85 = .ok (.lconst 0, 1) := dk_9 (dk_at dksX6_name_3 15 rfl rfl)
theorem dX6_name_86 : decode cX6_name 86 = .ok (.goto 10, 3) := dk_167 0 10 (dk_at dksX6_name_3 16 rfl rfl)
theorem dX6_name_89 : decode cX6_name 89 = .ok (.aload_n 0, 1) := dk_42 (dk_at dksX6_name_3 19 rfl rfl)
theorem dX6_name_90 : decode cX6_name 90 = .ok (.getfield 31, 3) := dk_180 0 31 (dk_at dksX6_name_3 20 rfl rfl)
theorem dX6_name_93 : decode cX6_name 93 = .ok (.iload_n 2, 1) := dk_28 (dk_at dksX6_name_3 23 rfl rfl)
theorem dX6_name_94 : decode cX6_name 94 = .ok (.iaload, 1) := dk_46 (dk_at dksX6_name_4 0 rfl rfl)
theorem dX6_name_95 : decode cX6_name 95 = .ok (.i2l, 1) := dk_133 (dk_at dksX6_name_4 1 rfl rfl)
theorem dX6_name_96 : decode cX6_name 96 = .ok (.lastore, 1) := dk_80 (dk_at dksX6_name_4 2 rfl rfl)
theorem dX6_name_97 : decode cX6_name 97 = .ok (.aload_n 0, 1) := dk_42 (dk_at dksX6_name_4 3 rfl rfl)
theorem dX6_name_98 : decode cX6_name 98 = .ok (.getfield 3, 3) := dk_180 0 3 (dk_at dksX6_name_4 4 rfl rfl)
theorem dX6_name_101 : decode cX6_name 101 = .ok (.getfield 115, 3) := dk_180 0 115 (dk_at dksX6_name_4 7 rfl rfl)
theorem dX6_name_104 : decode cX6_name 104 = .ok (.iconst 4, 1) := dk_7 (dk_at dksX6_name_4 10 rfl rfl)
theorem dX6_name_105 : decode cX6_name 105 = .ok (.aload_n 0, 1) := dk_42 (dk_at dksX6_name_4 11 rfl rfl)
theorem dX6_name_106 : decode cX6_name 106 = .ok (.getfield 22, 3) := dk_180 0 22 (dk_at dksX6_name_4 12 rfl rfl)
theorem dX6_name_109 : decode cX6_name 109 = .ok (.iload_n 1, 1) := dk_27 (dk_at dksX6_name_4 15 rfl rfl)
theorem dX6_name_110 : decode cX6_name 110 = .ok (.iaload, 1) := dk_46 (dk_at dksX6_name_4 16 rfl rfl)
theorem dX6_name_111 : decode cX6_name 111 = .ok (.iconst (-1), 1) := dk_2 (dk_at dksX6_name_4 17 rfl rfl)
theorem dX6_name_112 : decode cX6_name 112 = .ok (.if_icmp .ne 7, 3) := dk_160 0 7 (dk_at dksX6_name_4 18 rfl rfl)
theorem dX6_name_115 : decode cX6_name 115 = .ok (.lconst 0, 1) := dk_9 (dk_at dksX6_name_4 21 rfl rfl)
theorem dX6_name_116 : decode cX6_name 116 = .ok (.goto 30, 3) := dk_167 0 30 (dk_at dksX6_name_5 0 rfl rfl)
theorem dX6_name_119 : decode cX6_name 119 = .ok (.aload_n 0, 1) := dk_42 (dk_at dksX6_name_5 3 rfl rfl)
theorem dX6_name_120 : decode cX6_name 120 = .ok (.getfield 3, 3) := dk_180 0 3 (dk_at dksX6_name_5 4 rfl rfl)
theorem dX6_name_123 : decode cX6_name 123 = .ok (.aload_n 0, 1) := dk_42 (dk_at dksX6_name_5 7 rfl rfl)
theorem dX6_name_124 : decode cX6_name 124 = .ok (.getfield 22, 3) := dk_180 0 22 (dk_at dksX6_name_5 8 rfl rfl)
theorem dX6_name_127 : decode cX6_name 127 = .ok (.iload_n 1, 1) := dk_27 (dk_at dksX6_name_5 11 rfl rfl)
theorem dX6_name_128 : decode cX6_name 128 = .ok (.iaload, 1) := dk_46 (dk_at dksX6_name_5 12 rfl rfl)
theorem dX6_name_129 : decode cX6_name 129 = .ok (.invokevirtual 53, 3) := dk_182 0 53 (dk_at dksX6_name_5 13 rfl rfl)
theorem dX6_name_132 : decode cX6_name 132 = .ok (.getfield 126, 3) := dk_180 0 126 (dk_at dksX6_name_5 16 rfl rfl)
theorem dX6_name_135 : decode cX6_name 135 = .ok (.aload_n 0, 1) := dk_42 (dk_at dksX6_name_5 19 rfl rfl)
theorem dX6_name_136 : decode cX6_name 136 = .ok (.getfield 15, 3) := dk_180 0 15 (dk_at dksX6_name_5 20 rfl rfl)
theorem dX6_name_139 : decode cX6_name 139 = .ok (.iload_n 1, 1) := dk_27 (dk_at dksX6_name_5 23 rfl rfl)
theorem dX6_name_140 : decode cX6_name 140 = .ok (.iaload, 1) := dk_46 (dk_at dksX6_name_6 0 rfl rfl)
theorem dX6_name_141 : decode cX6_name 141 = .ok (.isub, 1) := dk_100 (dk_at dksX6_name_6 1 rfl rfl)
theorem dX6_name_142 : decode cX6_name 142 = .ok (.invokestatic 127, 3) := dk_184 0 127 (dk_at dksX6_name_6 2 rfl rfl)
theorem dX6_name_145 : decode cX6_name 145 = .ok (.i2l, 1) := dk_133 (dk_at dksX6_name_6 5 rfl rfl)
theorem dX6_name_146 : decode cX6_name 146 = .ok (.lastore, 1) := dk_80 (dk_at dksX6_name_6 6 rfl rfl)
theorem dX6_name_147 : decode cX6_name 147 = .ok (.aload_n 0, 1) := dk_42 (dk_at dksX6_name_6 7 rfl rfl)
theorem dX6_name_148 : decode cX6_name 148 = .ok (.getfield 3, 3) := dk_180 0 3 (dk_at dksX6_name_6 8 rfl rfl)
theorem dX6_name_151 : decode cX6_name 151 = .ok (.getfield 115, 3) := dk_180 0 115 (dk_at dksX6_name_6 11 rfl rfl)
theorem dX6_name_154 : decode cX6_name 154 = .ok (.iconst 5, 1) := dk_8 (dk_at dksX6_name_6 14 rfl rfl)
theorem dX6_name_155 : decode cX6_name 155 = .ok (.aload_n 0, 1) := dk_42 (dk_at dksX6_name_6 15 rfl rfl)
theorem dX6_name_156 : decode cX6_name 156 = .ok (.getfield 25, 3) := dk_180 0 25 (dk_at dksX6_name_6 16 rfl rfl)
theorem dX6_name_159 : decode cX6_name 159 = .ok (.iload_n 1, 1) := dk_27 (dk_at dksX6_name_6 19 rfl rfl)
theorem dX6_name_160 : decode cX6_name 160 = .ok (.iaload, 1) := dk_46 (dk_at dksX6_name_6 20 rfl rfl)
theorem dX6_name_161 : decode cX6_name 161 = .ok (.i2l, 1) := dk_133 (dk_at dksX6_name_6 21 rfl rfl)
theorem dX6_name_162 : decode cX6_name 162 = .ok (.lastore, 1) := dk_80 (dk_at dksX6_name_6 22 rfl rfl)
theorem dX6_name_163 : decode cX6_name 163 = .ok (.aload_n 0, 1) := dk_42 (dk_at dksX6_name_6 23 rfl rfl)
theorem dX6_name_164 : decode cX6_name 164 = .ok (.getfield 3, 3) := dk_180 0 3 (dk_at dksX6_name_7 0 rfl rfl)
theorem dX6_name_167 : decode cX6_name 167 = .ok (.getfield 115, 3) := dk_180 0 115 (dk_at dksX6_name_7 3 rfl rfl)
theorem dX6_name_170 : decode cX6_name 170 = .ok (.bipush 6, 2) := dk_16 6 (dk_at dksX6_name_7 6 rfl rfl)
theorem dX6_name_172 : decode cX6_name 172 = .ok (.aload_n 0, 1) := dk_42 (dk_at dksX6_name_7 8 rfl rfl)
theorem dX6_name_173 : decode cX6_name 173 = .ok (.getfield 61, 3) := dk_180 0 61 (dk_at dksX6_name_7 9 rfl rfl)
theorem dX6_name_176 : decode cX6_name 176 = .ok (.i2l, 1) := dk_133 (dk_at dksX6_name_7 12 rfl rfl)
theorem dX6_name_177 : decode cX6_name 177 = .ok (.lastore, 1) := dk_80 (dk_at dksX6_name_7 13 rfl rfl)
theorem dX6_name_178 : decode cX6_name 178 = .ok (.return_, 1) := dk_177 (dk_at dksX6_name_7 14 rfl rfl)
abbrev cX6_paceOf : ByteArray := prog_17_method_6_code
def yX6_paceOf : MethodName := ⟨RX6, "paceOf", "(I)I"⟩
def dkwX6_paceOf_1 : List UInt8 := [42, 180, 0, 3, 27, 182, 0, 38, 180, 0, 104, 172]
abbrev dktX6_paceOf_1 : List UInt8 := dkwX6_paceOf_1 ++ []
def dkwX6_paceOf_0 : List UInt8 := [42, 180, 0, 88, 7, 160, 0, 19, 5, 42, 180, 0, 3, 27, 182, 0, 38, 180, 0, 104, 104, 167, 0, 14]
abbrev dktX6_paceOf_0 : List UInt8 := dkwX6_paceOf_0 ++ dktX6_paceOf_1
theorem dksX6_paceOf_0 : cX6_paceOf.data.toList.drop 0 = dktX6_paceOf_0 := by decide +kernel
theorem dksX6_paceOf_1 : cX6_paceOf.data.toList.drop 24 = dktX6_paceOf_1 := dk_seg dksX6_paceOf_0 24 rfl rfl
theorem dX6_paceOf_0 : decode cX6_paceOf 0 = .ok (.aload_n 0, 1) := dk_42 (dk_at dksX6_paceOf_0 0 rfl rfl)
theorem dX6_paceOf_1 : decode cX6_paceOf 1 = .ok (.getfield 88, 3) := dk_180 0 88 (dk_at dksX6_paceOf_0 1 rfl rfl)
theorem dX6_paceOf_4 : decode cX6_paceOf 4 = .ok (.iconst 4, 1) := dk_7 (dk_at dksX6_paceOf_0 4 rfl rfl)
theorem dX6_paceOf_5 : decode cX6_paceOf 5 = .ok (.if_icmp .ne 19, 3) := dk_160 0 19 (dk_at dksX6_paceOf_0 5 rfl rfl)
theorem dX6_paceOf_8 : decode cX6_paceOf 8 = .ok (.iconst 2, 1) := dk_5 (dk_at dksX6_paceOf_0 8 rfl rfl)
theorem dX6_paceOf_9 : decode cX6_paceOf 9 = .ok (.aload_n 0, 1) := dk_42 (dk_at dksX6_paceOf_0 9 rfl rfl)
theorem dX6_paceOf_10 : decode cX6_paceOf 10 = .ok (.getfield 3, 3) := dk_180 0 3 (dk_at dksX6_paceOf_0 10 rfl rfl)
theorem dX6_paceOf_13 : decode cX6_paceOf 13 = .ok (.iload_n 1, 1) := dk_27 (dk_at dksX6_paceOf_0 13 rfl rfl)
theorem dX6_paceOf_14 : decode cX6_paceOf 14 = .ok (.invokevirtual 38, 3) := dk_182 0 38 (dk_at dksX6_paceOf_0 14 rfl rfl)
theorem dX6_paceOf_17 : decode cX6_paceOf 17 = .ok (.getfield 104, 3) := dk_180 0 104 (dk_at dksX6_paceOf_0 17 rfl rfl)
theorem dX6_paceOf_20 : decode cX6_paceOf 20 = .ok (.imul, 1) := dk_104 (dk_at dksX6_paceOf_0 20 rfl rfl)
theorem dX6_paceOf_21 : decode cX6_paceOf 21 = .ok (.goto 14, 3) := dk_167 0 14 (dk_at dksX6_paceOf_0 21 rfl rfl)
theorem dX6_paceOf_24 : decode cX6_paceOf 24 = .ok (.aload_n 0, 1) := dk_42 (dk_at dksX6_paceOf_1 0 rfl rfl)
theorem dX6_paceOf_25 : decode cX6_paceOf 25 = .ok (.getfield 3, 3) := dk_180 0 3 (dk_at dksX6_paceOf_1 1 rfl rfl)
theorem dX6_paceOf_28 : decode cX6_paceOf 28 = .ok (.iload_n 1, 1) := dk_27 (dk_at dksX6_paceOf_1 4 rfl rfl)
theorem dX6_paceOf_29 : decode cX6_paceOf 29 = .ok (.invokevirtual 38, 3) := dk_182 0 38 (dk_at dksX6_paceOf_1 5 rfl rfl)
theorem dX6_paceOf_32 : decode cX6_paceOf 32 = .ok (.getfield 104, 3) := dk_180 0 104 (dk_at dksX6_paceOf_1 8 rfl rfl)
theorem dX6_paceOf_35 : decode cX6_paceOf 35 = .ok (.ireturn, 1) := dk_172 (dk_at dksX6_paceOf_1 11 rfl rfl)
abbrev cX6_become : ByteArray := prog_17_method_3_code
def yX6_become : MethodName := ⟨RX6, "become", "(LTroughTreaty$State;)V"⟩
def dkwX6_become_7 : List UInt8 := [180, 0, 91, 181, 0, 91, 42, 43, 180, 0, 94, 181, 0, 94, 177]
abbrev dktX6_become_7 : List UInt8 := dkwX6_become_7 ++ []
def dkwX6_become_6 : List UInt8 := [180, 0, 85, 181, 0, 85, 42, 43, 180, 0, 88, 181, 0, 88, 42, 43, 180, 0, 97, 181, 0, 97, 42, 43]
abbrev dktX6_become_6 : List UInt8 := dkwX6_become_6 ++ dktX6_become_7
def dkwX6_become_5 : List UInt8 := [180, 0, 67, 181, 0, 67, 42, 43, 180, 0, 70, 181, 0, 70, 42, 43, 180, 0, 73, 181, 0, 73, 42, 43]
abbrev dktX6_become_5 : List UInt8 := dkwX6_become_5 ++ dktX6_become_6
def dkwX6_become_4 : List UInt8 := [132, 2, 1, 167, 255, 235, 42, 43, 180, 0, 61, 181, 0, 61, 42, 43, 180, 0, 64, 181, 0, 64, 42, 43]
abbrev dktX6_become_4 : List UInt8 := dkwX6_become_4 ++ dktX6_become_5
def dkwX6_become_3 : List UInt8 := [167, 255, 187, 3, 61, 28, 16, 6, 162, 0, 21, 42, 180, 0, 31, 28, 43, 180, 0, 31, 28, 46, 79]
abbrev dktX6_become_3 : List UInt8 := dkwX6_become_3 ++ dktX6_become_4
def dkwX6_become_2 : List UInt8 := [28, 43, 180, 0, 25, 28, 46, 79, 42, 180, 0, 28, 28, 43, 180, 0, 28, 28, 46, 79, 132, 2, 1]
abbrev dktX6_become_2 : List UInt8 := dkwX6_become_2 ++ dktX6_become_3
def dkwX6_become_1 : List UInt8 := [28, 43, 180, 0, 19, 28, 46, 79, 42, 180, 0, 22, 28, 43, 180, 0, 22, 28, 46, 79, 42, 180, 0, 25]
abbrev dktX6_become_1 : List UInt8 := dkwX6_become_1 ++ dktX6_become_2
def dkwX6_become_0 : List UInt8 := [3, 61, 28, 16, 6, 162, 0, 69, 42, 180, 0, 15, 28, 43, 180, 0, 15, 28, 46, 79, 42, 180, 0, 19]
abbrev dktX6_become_0 : List UInt8 := dkwX6_become_0 ++ dktX6_become_1
theorem dksX6_become_0 : cX6_become.data.toList.drop 0 = dktX6_become_0 := by decide +kernel
theorem dksX6_become_1 : cX6_become.data.toList.drop 24 = dktX6_become_1 := dk_seg dksX6_become_0 24 rfl rfl
theorem dksX6_become_2 : cX6_become.data.toList.drop 48 = dktX6_become_2 := dk_seg dksX6_become_1 24 rfl rfl
theorem dksX6_become_3 : cX6_become.data.toList.drop 71 = dktX6_become_3 := dk_seg dksX6_become_2 23 rfl rfl
theorem dksX6_become_4 : cX6_become.data.toList.drop 94 = dktX6_become_4 := dk_seg dksX6_become_3 23 rfl rfl
theorem dksX6_become_5 : cX6_become.data.toList.drop 118 = dktX6_become_5 := dk_seg dksX6_become_4 24 rfl rfl
theorem dksX6_become_6 : cX6_become.data.toList.drop 142 = dktX6_become_6 := dk_seg dksX6_become_5 24 rfl rfl
theorem dksX6_become_7 : cX6_become.data.toList.drop 166 = dktX6_become_7 := dk_seg dksX6_become_6 24 rfl rfl
theorem dX6_become_0 : decode cX6_become 0 = .ok (.iconst 0, 1) := dk_3 (dk_at dksX6_become_0 0 rfl rfl)
theorem dX6_become_1 : decode cX6_become 1 = .ok (.istore_n 2, 1) := dk_61 (dk_at dksX6_become_0 1 rfl rfl)
theorem dX6_become_2 : decode cX6_become 2 = .ok (.iload_n 2, 1) := dk_28 (dk_at dksX6_become_0 2 rfl rfl)
theorem dX6_become_3 : decode cX6_become 3 = .ok (.bipush 6, 2) := dk_16 6 (dk_at dksX6_become_0 3 rfl rfl)
theorem dX6_become_5 : decode cX6_become 5 = .ok (.if_icmp .ge 69, 3) := dk_162 0 69 (dk_at dksX6_become_0 5 rfl rfl)
theorem dX6_become_8 : decode cX6_become 8 = .ok (.aload_n 0, 1) := dk_42 (dk_at dksX6_become_0 8 rfl rfl)
theorem dX6_become_9 : decode cX6_become 9 = .ok (.getfield 15, 3) := dk_180 0 15 (dk_at dksX6_become_0 9 rfl rfl)
theorem dX6_become_12 : decode cX6_become 12 = .ok (.iload_n 2, 1) := dk_28 (dk_at dksX6_become_0 12 rfl rfl)
theorem dX6_become_13 : decode cX6_become 13 = .ok (.aload_n 1, 1) := dk_43 (dk_at dksX6_become_0 13 rfl rfl)
theorem dX6_become_14 : decode cX6_become 14 = .ok (.getfield 15, 3) := dk_180 0 15 (dk_at dksX6_become_0 14 rfl rfl)
theorem dX6_become_17 : decode cX6_become 17 = .ok (.iload_n 2, 1) := dk_28 (dk_at dksX6_become_0 17 rfl rfl)
theorem dX6_become_18 : decode cX6_become 18 = .ok (.iaload, 1) := dk_46 (dk_at dksX6_become_0 18 rfl rfl)
theorem dX6_become_19 : decode cX6_become 19 = .ok (.iastore, 1) := dk_79 (dk_at dksX6_become_0 19 rfl rfl)
theorem dX6_become_20 : decode cX6_become 20 = .ok (.aload_n 0, 1) := dk_42 (dk_at dksX6_become_0 20 rfl rfl)
theorem dX6_become_21 : decode cX6_become 21 = .ok (.getfield 19, 3) := dk_180 0 19 (dk_at dksX6_become_0 21 rfl rfl)
theorem dX6_become_24 : decode cX6_become 24 = .ok (.iload_n 2, 1) := dk_28 (dk_at dksX6_become_1 0 rfl rfl)
theorem dX6_become_25 : decode cX6_become 25 = .ok (.aload_n 1, 1) := dk_43 (dk_at dksX6_become_1 1 rfl rfl)
theorem dX6_become_26 : decode cX6_become 26 = .ok (.getfield 19, 3) := dk_180 0 19 (dk_at dksX6_become_1 2 rfl rfl)
theorem dX6_become_29 : decode cX6_become 29 = .ok (.iload_n 2, 1) := dk_28 (dk_at dksX6_become_1 5 rfl rfl)
theorem dX6_become_30 : decode cX6_become 30 = .ok (.iaload, 1) := dk_46 (dk_at dksX6_become_1 6 rfl rfl)
theorem dX6_become_31 : decode cX6_become 31 = .ok (.iastore, 1) := dk_79 (dk_at dksX6_become_1 7 rfl rfl)
theorem dX6_become_32 : decode cX6_become 32 = .ok (.aload_n 0, 1) := dk_42 (dk_at dksX6_become_1 8 rfl rfl)
theorem dX6_become_33 : decode cX6_become 33 = .ok (.getfield 22, 3) := dk_180 0 22 (dk_at dksX6_become_1 9 rfl rfl)
theorem dX6_become_36 : decode cX6_become 36 = .ok (.iload_n 2, 1) := dk_28 (dk_at dksX6_become_1 12 rfl rfl)
theorem dX6_become_37 : decode cX6_become 37 = .ok (.aload_n 1, 1) := dk_43 (dk_at dksX6_become_1 13 rfl rfl)
theorem dX6_become_38 : decode cX6_become 38 = .ok (.getfield 22, 3) := dk_180 0 22 (dk_at dksX6_become_1 14 rfl rfl)
theorem dX6_become_41 : decode cX6_become 41 = .ok (.iload_n 2, 1) := dk_28 (dk_at dksX6_become_1 17 rfl rfl)
theorem dX6_become_42 : decode cX6_become 42 = .ok (.iaload, 1) := dk_46 (dk_at dksX6_become_1 18 rfl rfl)
theorem dX6_become_43 : decode cX6_become 43 = .ok (.iastore, 1) := dk_79 (dk_at dksX6_become_1 19 rfl rfl)
theorem dX6_become_44 : decode cX6_become 44 = .ok (.aload_n 0, 1) := dk_42 (dk_at dksX6_become_1 20 rfl rfl)
theorem dX6_become_45 : decode cX6_become 45 = .ok (.getfield 25, 3) := dk_180 0 25 (dk_at dksX6_become_1 21 rfl rfl)
theorem dX6_become_48 : decode cX6_become 48 = .ok (.iload_n 2, 1) := dk_28 (dk_at dksX6_become_2 0 rfl rfl)
theorem dX6_become_49 : decode cX6_become 49 = .ok (.aload_n 1, 1) := dk_43 (dk_at dksX6_become_2 1 rfl rfl)
theorem dX6_become_50 : decode cX6_become 50 = .ok (.getfield 25, 3) := dk_180 0 25 (dk_at dksX6_become_2 2 rfl rfl)
theorem dX6_become_53 : decode cX6_become 53 = .ok (.iload_n 2, 1) := dk_28 (dk_at dksX6_become_2 5 rfl rfl)
theorem dX6_become_54 : decode cX6_become 54 = .ok (.iaload, 1) := dk_46 (dk_at dksX6_become_2 6 rfl rfl)
theorem dX6_become_55 : decode cX6_become 55 = .ok (.iastore, 1) := dk_79 (dk_at dksX6_become_2 7 rfl rfl)
theorem dX6_become_56 : decode cX6_become 56 = .ok (.aload_n 0, 1) := dk_42 (dk_at dksX6_become_2 8 rfl rfl)
theorem dX6_become_57 : decode cX6_become 57 = .ok (.getfield 28, 3) := dk_180 0 28 (dk_at dksX6_become_2 9 rfl rfl)
theorem dX6_become_60 : decode cX6_become 60 = .ok (.iload_n 2, 1) := dk_28 (dk_at dksX6_become_2 12 rfl rfl)
theorem dX6_become_61 : decode cX6_become 61 = .ok (.aload_n 1, 1) := dk_43 (dk_at dksX6_become_2 13 rfl rfl)
theorem dX6_become_62 : decode cX6_become 62 = .ok (.getfield 28, 3) := dk_180 0 28 (dk_at dksX6_become_2 14 rfl rfl)
theorem dX6_become_65 : decode cX6_become 65 = .ok (.iload_n 2, 1) := dk_28 (dk_at dksX6_become_2 17 rfl rfl)
theorem dX6_become_66 : decode cX6_become 66 = .ok (.iaload, 1) := dk_46 (dk_at dksX6_become_2 18 rfl rfl)
theorem dX6_become_67 : decode cX6_become 67 = .ok (.iastore, 1) := dk_79 (dk_at dksX6_become_2 19 rfl rfl)
theorem dX6_become_68 : decode cX6_become 68 = .ok (.iinc 2 1, 3) := dk_132 2 1 (dk_at dksX6_become_2 20 rfl rfl)
theorem dX6_become_71 : decode cX6_become 71 = .ok (.goto (-69), 3) := dk_167 255 187 (dk_at dksX6_become_3 0 rfl rfl)
theorem dX6_become_74 : decode cX6_become 74 = .ok (.iconst 0, 1) := dk_3 (dk_at dksX6_become_3 3 rfl rfl)
theorem dX6_become_75 : decode cX6_become 75 = .ok (.istore_n 2, 1) := dk_61 (dk_at dksX6_become_3 4 rfl rfl)
theorem dX6_become_76 : decode cX6_become 76 = .ok (.iload_n 2, 1) := dk_28 (dk_at dksX6_become_3 5 rfl rfl)
theorem dX6_become_77 : decode cX6_become 77 = .ok (.bipush 6, 2) := dk_16 6 (dk_at dksX6_become_3 6 rfl rfl)
theorem dX6_become_79 : decode cX6_become 79 = .ok (.if_icmp .ge 21, 3) := dk_162 0 21 (dk_at dksX6_become_3 8 rfl rfl)
theorem dX6_become_82 : decode cX6_become 82 = .ok (.aload_n 0, 1) := dk_42 (dk_at dksX6_become_3 11 rfl rfl)
theorem dX6_become_83 : decode cX6_become 83 = .ok (.getfield 31, 3) := dk_180 0 31 (dk_at dksX6_become_3 12 rfl rfl)
theorem dX6_become_86 : decode cX6_become 86 = .ok (.iload_n 2, 1) := dk_28 (dk_at dksX6_become_3 15 rfl rfl)
theorem dX6_become_87 : decode cX6_become 87 = .ok (.aload_n 1, 1) := dk_43 (dk_at dksX6_become_3 16 rfl rfl)
theorem dX6_become_88 : decode cX6_become 88 = .ok (.getfield 31, 3) := dk_180 0 31 (dk_at dksX6_become_3 17 rfl rfl)
theorem dX6_become_91 : decode cX6_become 91 = .ok (.iload_n 2, 1) := dk_28 (dk_at dksX6_become_3 20 rfl rfl)
theorem dX6_become_92 : decode cX6_become 92 = .ok (.iaload, 1) := dk_46 (dk_at dksX6_become_3 21 rfl rfl)
theorem dX6_become_93 : decode cX6_become 93 = .ok (.iastore, 1) := dk_79 (dk_at dksX6_become_3 22 rfl rfl)
theorem dX6_become_94 : decode cX6_become 94 = .ok (.iinc 2 1, 3) := dk_132 2 1 (dk_at dksX6_become_4 0 rfl rfl)
theorem dX6_become_97 : decode cX6_become 97 = .ok (.goto (-21), 3) := dk_167 255 235 (dk_at dksX6_become_4 3 rfl rfl)
theorem dX6_become_100 : decode cX6_become 100 = .ok (.aload_n 0, 1) := dk_42 (dk_at dksX6_become_4 6 rfl rfl)
theorem dX6_become_101 : decode cX6_become 101 = .ok (.aload_n 1, 1) := dk_43 (dk_at dksX6_become_4 7 rfl rfl)
theorem dX6_become_102 : decode cX6_become 102 = .ok (.getfield 61, 3) := dk_180 0 61 (dk_at dksX6_become_4 8 rfl rfl)
theorem dX6_become_105 : decode cX6_become 105 = .ok (.putfield 61, 3) := dk_181 0 61 (dk_at dksX6_become_4 11 rfl rfl)
theorem dX6_become_108 : decode cX6_become 108 = .ok (.aload_n 0, 1) := dk_42 (dk_at dksX6_become_4 14 rfl rfl)
theorem dX6_become_109 : decode cX6_become 109 = .ok (.aload_n 1, 1) := dk_43 (dk_at dksX6_become_4 15 rfl rfl)
theorem dX6_become_110 : decode cX6_become 110 = .ok (.getfield 64, 3) := dk_180 0 64 (dk_at dksX6_become_4 16 rfl rfl)
theorem dX6_become_113 : decode cX6_become 113 = .ok (.putfield 64, 3) := dk_181 0 64 (dk_at dksX6_become_4 19 rfl rfl)
theorem dX6_become_116 : decode cX6_become 116 = .ok (.aload_n 0, 1) := dk_42 (dk_at dksX6_become_4 22 rfl rfl)
theorem dX6_become_117 : decode cX6_become 117 = .ok (.aload_n 1, 1) := dk_43 (dk_at dksX6_become_4 23 rfl rfl)
theorem dX6_become_118 : decode cX6_become 118 = .ok (.getfield 67, 3) := dk_180 0 67 (dk_at dksX6_become_5 0 rfl rfl)
theorem dX6_become_121 : decode cX6_become 121 = .ok (.putfield 67, 3) := dk_181 0 67 (dk_at dksX6_become_5 3 rfl rfl)
theorem dX6_become_124 : decode cX6_become 124 = .ok (.aload_n 0, 1) := dk_42 (dk_at dksX6_become_5 6 rfl rfl)
theorem dX6_become_125 : decode cX6_become 125 = .ok (.aload_n 1, 1) := dk_43 (dk_at dksX6_become_5 7 rfl rfl)
theorem dX6_become_126 : decode cX6_become 126 = .ok (.getfield 70, 3) := dk_180 0 70 (dk_at dksX6_become_5 8 rfl rfl)
theorem dX6_become_129 : decode cX6_become 129 = .ok (.putfield 70, 3) := dk_181 0 70 (dk_at dksX6_become_5 11 rfl rfl)
theorem dX6_become_132 : decode cX6_become 132 = .ok (.aload_n 0, 1) := dk_42 (dk_at dksX6_become_5 14 rfl rfl)
theorem dX6_become_133 : decode cX6_become 133 = .ok (.aload_n 1, 1) := dk_43 (dk_at dksX6_become_5 15 rfl rfl)
theorem dX6_become_134 : decode cX6_become 134 = .ok (.getfield 73, 3) := dk_180 0 73 (dk_at dksX6_become_5 16 rfl rfl)
theorem dX6_become_137 : decode cX6_become 137 = .ok (.putfield 73, 3) := dk_181 0 73 (dk_at dksX6_become_5 19 rfl rfl)
theorem dX6_become_140 : decode cX6_become 140 = .ok (.aload_n 0, 1) := dk_42 (dk_at dksX6_become_5 22 rfl rfl)
theorem dX6_become_141 : decode cX6_become 141 = .ok (.aload_n 1, 1) := dk_43 (dk_at dksX6_become_5 23 rfl rfl)
theorem dX6_become_142 : decode cX6_become 142 = .ok (.getfield 85, 3) := dk_180 0 85 (dk_at dksX6_become_6 0 rfl rfl)
theorem dX6_become_145 : decode cX6_become 145 = .ok (.putfield 85, 3) := dk_181 0 85 (dk_at dksX6_become_6 3 rfl rfl)
theorem dX6_become_148 : decode cX6_become 148 = .ok (.aload_n 0, 1) := dk_42 (dk_at dksX6_become_6 6 rfl rfl)
theorem dX6_become_149 : decode cX6_become 149 = .ok (.aload_n 1, 1) := dk_43 (dk_at dksX6_become_6 7 rfl rfl)
theorem dX6_become_150 : decode cX6_become 150 = .ok (.getfield 88, 3) := dk_180 0 88 (dk_at dksX6_become_6 8 rfl rfl)
theorem dX6_become_153 : decode cX6_become 153 = .ok (.putfield 88, 3) := dk_181 0 88 (dk_at dksX6_become_6 11 rfl rfl)
theorem dX6_become_156 : decode cX6_become 156 = .ok (.aload_n 0, 1) := dk_42 (dk_at dksX6_become_6 14 rfl rfl)
theorem dX6_become_157 : decode cX6_become 157 = .ok (.aload_n 1, 1) := dk_43 (dk_at dksX6_become_6 15 rfl rfl)
theorem dX6_become_158 : decode cX6_become 158 = .ok (.getfield 97, 3) := dk_180 0 97 (dk_at dksX6_become_6 16 rfl rfl)
theorem dX6_become_161 : decode cX6_become 161 = .ok (.putfield 97, 3) := dk_181 0 97 (dk_at dksX6_become_6 19 rfl rfl)
theorem dX6_become_164 : decode cX6_become 164 = .ok (.aload_n 0, 1) := dk_42 (dk_at dksX6_become_6 22 rfl rfl)
theorem dX6_become_165 : decode cX6_become 165 = .ok (.aload_n 1, 1) := dk_43 (dk_at dksX6_become_6 23 rfl rfl)
theorem dX6_become_166 : decode cX6_become 166 = .ok (.getfield 91, 3) := dk_180 0 91 (dk_at dksX6_become_7 0 rfl rfl)
theorem dX6_become_169 : decode cX6_become 169 = .ok (.putfield 91, 3) := dk_181 0 91 (dk_at dksX6_become_7 3 rfl rfl)
theorem dX6_become_172 : decode cX6_become 172 = .ok (.aload_n 0, 1) := dk_42 (dk_at dksX6_become_7 6 rfl rfl)
theorem dX6_become_173 : decode cX6_become 173 = .ok (.aload_n 1, 1) := dk_43 (dk_at dksX6_become_7 7 rfl rfl)
theorem dX6_become_174 : decode cX6_become 174 = .ok (.getfield 94, 3) := dk_180 0 94 (dk_at dksX6_become_7 8 rfl rfl)
theorem dX6_become_177 : decode cX6_become 177 = .ok (.putfield 94, 3) := dk_181 0 94 (dk_at dksX6_become_7 11 rfl rfl)
theorem dX6_become_180 : decode cX6_become 180 = .ok (.return_, 1) := dk_177 (dk_at dksX6_become_7 14 rfl rfl)
abbrev cX6_pass : ByteArray := prog_17_method_13_code
def yX6_pass : MethodName := ⟨RX6, "pass", "(Z)V"⟩
def dkwX6_pass_17 : List UInt8 := [42, 89, 180, 0, 61, 4, 96, 181, 0, 61, 177]
abbrev dktX6_pass_17 : List UInt8 := dkwX6_pass_17 ++ []
def dkwX6_pass_16 : List UInt8 := [28, 46, 42, 180, 0, 3, 28, 182, 0, 53, 180, 0, 201, 96, 184, 0, 132, 79, 132, 2, 1, 167, 255, 193]
abbrev dktX6_pass_16 : List UInt8 := dkwX6_pass_16 ++ dktX6_pass_17
def dkwX6_pass_15 : List UInt8 := [16, 9, 160, 0, 46, 42, 27, 182, 0, 197, 153, 0, 32, 42, 180, 0, 31, 28, 16, 99, 42, 180, 0, 31]
abbrev dktX6_pass_15 : List UInt8 := dkwX6_pass_15 ++ dktX6_pass_16
def dkwX6_pass_14 : List UInt8 := [167, 255, 206, 3, 61, 28, 42, 180, 0, 3, 182, 0, 50, 162, 0, 58, 42, 180, 0, 61, 16, 10, 112]
abbrev dktX6_pass_14 : List UInt8 := dkwX6_pass_14 ++ dktX6_pass_15
def dkwX6_pass_13 : List UInt8 := [16, 100, 161, 0, 17, 42, 89, 180, 0, 64, 4, 28, 120, 2, 130, 126, 181, 0, 64, 132, 2, 1]
abbrev dktX6_pass_13 : List UInt8 := dkwX6_pass_13 ++ dktX6_pass_14
def dkwX6_pass_12 : List UInt8 := [182, 0, 34, 162, 0, 45, 42, 180, 0, 19, 28, 46, 16, 100, 162, 0, 14, 42, 180, 0, 25, 28, 46]
abbrev dktX6_pass_12 : List UInt8 := dkwX6_pass_12 ++ dktX6_pass_13
def dkwX6_pass_11 : List UInt8 := [182, 0, 193, 132, 3, 1, 167, 255, 180, 132, 2, 1, 167, 255, 159, 3, 61, 28, 42, 180, 0, 3]
abbrev dktX6_pass_11 : List UInt8 := dkwX6_pass_11 ++ dktX6_pass_12
def dkwX6_pass_10 : List UInt8 := [182, 0, 38, 180, 0, 123, 42, 180, 0, 3, 29, 182, 0, 38, 180, 0, 123, 159, 0, 9, 42, 28, 29]
abbrev dktX6_pass_10 : List UInt8 := dkwX6_pass_10 ++ dktX6_pass_11
def dkwX6_pass_9 : List UInt8 := [153, 0, 49, 42, 180, 0, 15, 28, 46, 42, 180, 0, 15, 29, 46, 160, 0, 34, 42, 180, 0, 3, 28]
abbrev dktX6_pass_9 : List UInt8 := dkwX6_pass_9 ++ dktX6_pass_10
def dkwX6_pass_8 : List UInt8 := [42, 180, 0, 3, 182, 0, 34, 162, 0, 71, 42, 28, 182, 0, 182, 153, 0, 57, 42, 29, 182, 0, 182]
abbrev dktX6_pass_8 : List UInt8 := dkwX6_pass_8 ++ dktX6_pass_9
def dkwX6_pass_7 : List UInt8 := [132, 2, 1, 167, 255, 222, 3, 61, 28, 42, 180, 0, 3, 182, 0, 34, 162, 0, 92, 28, 4, 96, 62, 29]
abbrev dktX6_pass_7 : List UInt8 := dkwX6_pass_7 ++ dktX6_pass_8
def dkwX6_pass_6 : List UInt8 := [162, 0, 29, 42, 180, 0, 28, 28, 3, 79, 42, 28, 182, 0, 182, 153, 0, 8, 42, 28, 182, 0, 190]
abbrev dktX6_pass_6 : List UInt8 := dkwX6_pass_6 ++ dktX6_pass_7
def dkwX6_pass_5 : List UInt8 := [153, 0, 8, 42, 28, 182, 0, 186, 132, 2, 1, 167, 255, 229, 3, 61, 28, 42, 180, 0, 3, 182, 0, 34]
abbrev dktX6_pass_5 : List UInt8 := dkwX6_pass_5 ++ dktX6_pass_6
def dkwX6_pass_4 : List UInt8 := [132, 2, 1, 167, 255, 164, 3, 61, 28, 42, 180, 0, 3, 182, 0, 34, 162, 0, 22, 42, 28, 182, 0, 182]
abbrev dktX6_pass_4 : List UInt8 := dkwX6_pass_4 ++ dktX6_pass_5
def dkwX6_pass_3 : List UInt8 := [180, 0, 178, 42, 180, 0, 3, 180, 0, 76, 180, 0, 163, 28, 182, 0, 171, 192, 0, 175, 180, 0, 180, 79]
abbrev dktX6_pass_3 : List UInt8 := dkwX6_pass_3 ++ dktX6_pass_4
def dkwX6_pass_2 : List UInt8 := [160, 0, 48, 42, 180, 0, 22, 42, 180, 0, 3, 180, 0, 76, 180, 0, 163, 28, 182, 0, 171, 192, 0, 175]
abbrev dktX6_pass_2 : List UInt8 := dkwX6_pass_2 ++ dktX6_pass_3
def dkwX6_pass_1 : List UInt8 := [42, 180, 0, 3, 180, 0, 76, 180, 0, 163, 28, 182, 0, 171, 192, 0, 175, 180, 0, 177, 42, 180, 0, 61]
abbrev dktX6_pass_1 : List UInt8 := dkwX6_pass_1 ++ dktX6_pass_2
def dkwX6_pass_0 : List UInt8 := [42, 2, 181, 0, 152, 3, 61, 28, 42, 180, 0, 3, 180, 0, 76, 180, 0, 163, 182, 0, 166, 162, 0, 81]
abbrev dktX6_pass_0 : List UInt8 := dkwX6_pass_0 ++ dktX6_pass_1
theorem dksX6_pass_0 : cX6_pass.data.toList.drop 0 = dktX6_pass_0 := by decide +kernel
theorem dksX6_pass_1 : cX6_pass.data.toList.drop 24 = dktX6_pass_1 := dk_seg dksX6_pass_0 24 rfl rfl
theorem dksX6_pass_2 : cX6_pass.data.toList.drop 48 = dktX6_pass_2 := dk_seg dksX6_pass_1 24 rfl rfl
theorem dksX6_pass_3 : cX6_pass.data.toList.drop 72 = dktX6_pass_3 := dk_seg dksX6_pass_2 24 rfl rfl
theorem dksX6_pass_4 : cX6_pass.data.toList.drop 96 = dktX6_pass_4 := dk_seg dksX6_pass_3 24 rfl rfl
theorem dksX6_pass_5 : cX6_pass.data.toList.drop 120 = dktX6_pass_5 := dk_seg dksX6_pass_4 24 rfl rfl
theorem dksX6_pass_6 : cX6_pass.data.toList.drop 144 = dktX6_pass_6 := dk_seg dksX6_pass_5 24 rfl rfl
theorem dksX6_pass_7 : cX6_pass.data.toList.drop 167 = dktX6_pass_7 := dk_seg dksX6_pass_6 23 rfl rfl
theorem dksX6_pass_8 : cX6_pass.data.toList.drop 191 = dktX6_pass_8 := dk_seg dksX6_pass_7 24 rfl rfl
theorem dksX6_pass_9 : cX6_pass.data.toList.drop 214 = dktX6_pass_9 := dk_seg dksX6_pass_8 23 rfl rfl
theorem dksX6_pass_10 : cX6_pass.data.toList.drop 237 = dktX6_pass_10 := dk_seg dksX6_pass_9 23 rfl rfl
theorem dksX6_pass_11 : cX6_pass.data.toList.drop 260 = dktX6_pass_11 := dk_seg dksX6_pass_10 23 rfl rfl
theorem dksX6_pass_12 : cX6_pass.data.toList.drop 282 = dktX6_pass_12 := dk_seg dksX6_pass_11 22 rfl rfl
theorem dksX6_pass_13 : cX6_pass.data.toList.drop 305 = dktX6_pass_13 := dk_seg dksX6_pass_12 23 rfl rfl
theorem dksX6_pass_14 : cX6_pass.data.toList.drop 327 = dktX6_pass_14 := dk_seg dksX6_pass_13 22 rfl rfl
theorem dksX6_pass_15 : cX6_pass.data.toList.drop 350 = dktX6_pass_15 := dk_seg dksX6_pass_14 23 rfl rfl
theorem dksX6_pass_16 : cX6_pass.data.toList.drop 374 = dktX6_pass_16 := dk_seg dksX6_pass_15 24 rfl rfl
theorem dksX6_pass_17 : cX6_pass.data.toList.drop 398 = dktX6_pass_17 := dk_seg dksX6_pass_16 24 rfl rfl
theorem dX6_pass_0 : decode cX6_pass 0 = .ok (.aload_n 0, 1) := dk_42 (dk_at dksX6_pass_0 0 rfl rfl)
theorem dX6_pass_1 : decode cX6_pass 1 = .ok (.iconst (-1), 1) := dk_2 (dk_at dksX6_pass_0 1 rfl rfl)
theorem dX6_pass_2 : decode cX6_pass 2 = .ok (.putfield 152, 3) := dk_181 0 152 (dk_at dksX6_pass_0 2 rfl rfl)
theorem dX6_pass_5 : decode cX6_pass 5 = .ok (.iconst 0, 1) := dk_3 (dk_at dksX6_pass_0 5 rfl rfl)
theorem dX6_pass_6 : decode cX6_pass 6 = .ok (.istore_n 2, 1) := dk_61 (dk_at dksX6_pass_0 6 rfl rfl)
theorem dX6_pass_7 : decode cX6_pass 7 = .ok (.iload_n 2, 1) := dk_28 (dk_at dksX6_pass_0 7 rfl rfl)
theorem dX6_pass_8 : decode cX6_pass 8 = .ok (.aload_n 0, 1) := dk_42 (dk_at dksX6_pass_0 8 rfl rfl)
theorem dX6_pass_9 : decode cX6_pass 9 = .ok (.getfield 3, 3) := dk_180 0 3 (dk_at dksX6_pass_0 9 rfl rfl)
theorem dX6_pass_12 : decode cX6_pass 12 = .ok (.getfield 76, 3) := dk_180 0 76 (dk_at dksX6_pass_0 12 rfl rfl)
theorem dX6_pass_15 : decode cX6_pass 15 = .ok (.getfield 163, 3) := dk_180 0 163 (dk_at dksX6_pass_0 15 rfl rfl)
theorem dX6_pass_18 : decode cX6_pass 18 = .ok (.invokevirtual 166, 3) := dk_182 0 166 (dk_at dksX6_pass_0 18 rfl rfl)
theorem dX6_pass_21 : decode cX6_pass 21 = .ok (.if_icmp .ge 81, 3) := dk_162 0 81 (dk_at dksX6_pass_0 21 rfl rfl)
theorem dX6_pass_24 : decode cX6_pass 24 = .ok (.aload_n 0, 1) := dk_42 (dk_at dksX6_pass_1 0 rfl rfl)
theorem dX6_pass_25 : decode cX6_pass 25 = .ok (.getfield 3, 3) := dk_180 0 3 (dk_at dksX6_pass_1 1 rfl rfl)
theorem dX6_pass_28 : decode cX6_pass 28 = .ok (.getfield 76, 3) := dk_180 0 76 (dk_at dksX6_pass_1 4 rfl rfl)
theorem dX6_pass_31 : decode cX6_pass 31 = .ok (.getfield 163, 3) := dk_180 0 163 (dk_at dksX6_pass_1 7 rfl rfl)
theorem dX6_pass_34 : decode cX6_pass 34 = .ok (.iload_n 2, 1) := dk_28 (dk_at dksX6_pass_1 10 rfl rfl)
theorem dX6_pass_35 : decode cX6_pass 35 = .ok (.invokevirtual 171, 3) := dk_182 0 171 (dk_at dksX6_pass_1 11 rfl rfl)
theorem dX6_pass_38 : decode cX6_pass 38 = .ok (.checkcast 175, 3) := dk_192 0 175 (dk_at dksX6_pass_1 14 rfl rfl)
theorem dX6_pass_41 : decode cX6_pass 41 = .ok (.getfield 177, 3) := dk_180 0 177 (dk_at dksX6_pass_1 17 rfl rfl)
theorem dX6_pass_44 : decode cX6_pass 44 = .ok (.aload_n 0, 1) := dk_42 (dk_at dksX6_pass_1 20 rfl rfl)
theorem dX6_pass_45 : decode cX6_pass 45 = .ok (.getfield 61, 3) := dk_180 0 61 (dk_at dksX6_pass_1 21 rfl rfl)
theorem dX6_pass_48 : decode cX6_pass 48 = .ok (.if_icmp .ne 48, 3) := dk_160 0 48 (dk_at dksX6_pass_2 0 rfl rfl)
theorem dX6_pass_51 : decode cX6_pass 51 = .ok (.aload_n 0, 1) := dk_42 (dk_at dksX6_pass_2 3 rfl rfl)
theorem dX6_pass_52 : decode cX6_pass 52 = .ok (.getfield 22, 3) := dk_180 0 22 (dk_at dksX6_pass_2 4 rfl rfl)
theorem dX6_pass_55 : decode cX6_pass 55 = .ok (.aload_n 0, 1) := dk_42 (dk_at dksX6_pass_2 7 rfl rfl)
theorem dX6_pass_56 : decode cX6_pass 56 = .ok (.getfield 3, 3) := dk_180 0 3 (dk_at dksX6_pass_2 8 rfl rfl)
theorem dX6_pass_59 : decode cX6_pass 59 = .ok (.getfield 76, 3) := dk_180 0 76 (dk_at dksX6_pass_2 11 rfl rfl)
theorem dX6_pass_62 : decode cX6_pass 62 = .ok (.getfield 163, 3) := dk_180 0 163 (dk_at dksX6_pass_2 14 rfl rfl)
theorem dX6_pass_65 : decode cX6_pass 65 = .ok (.iload_n 2, 1) := dk_28 (dk_at dksX6_pass_2 17 rfl rfl)
theorem dX6_pass_66 : decode cX6_pass 66 = .ok (.invokevirtual 171, 3) := dk_182 0 171 (dk_at dksX6_pass_2 18 rfl rfl)
theorem dX6_pass_69 : decode cX6_pass 69 = .ok (.checkcast 175, 3) := dk_192 0 175 (dk_at dksX6_pass_2 21 rfl rfl)
theorem dX6_pass_72 : decode cX6_pass 72 = .ok (.getfield 178, 3) := dk_180 0 178 (dk_at dksX6_pass_3 0 rfl rfl)
theorem dX6_pass_75 : decode cX6_pass 75 = .ok (.aload_n 0, 1) := dk_42 (dk_at dksX6_pass_3 3 rfl rfl)
theorem dX6_pass_76 : decode cX6_pass 76 = .ok (.getfield 3, 3) := dk_180 0 3 (dk_at dksX6_pass_3 4 rfl rfl)
theorem dX6_pass_79 : decode cX6_pass 79 = .ok (.getfield 76, 3) := dk_180 0 76 (dk_at dksX6_pass_3 7 rfl rfl)
theorem dX6_pass_82 : decode cX6_pass 82 = .ok (.getfield 163, 3) := dk_180 0 163 (dk_at dksX6_pass_3 10 rfl rfl)
theorem dX6_pass_85 : decode cX6_pass 85 = .ok (.iload_n 2, 1) := dk_28 (dk_at dksX6_pass_3 13 rfl rfl)
theorem dX6_pass_86 : decode cX6_pass 86 = .ok (.invokevirtual 171, 3) := dk_182 0 171 (dk_at dksX6_pass_3 14 rfl rfl)
theorem dX6_pass_89 : decode cX6_pass 89 = .ok (.checkcast 175, 3) := dk_192 0 175 (dk_at dksX6_pass_3 17 rfl rfl)
theorem dX6_pass_92 : decode cX6_pass 92 = .ok (.getfield 180, 3) := dk_180 0 180 (dk_at dksX6_pass_3 20 rfl rfl)
theorem dX6_pass_95 : decode cX6_pass 95 = .ok (.iastore, 1) := dk_79 (dk_at dksX6_pass_3 23 rfl rfl)
theorem dX6_pass_96 : decode cX6_pass 96 = .ok (.iinc 2 1, 3) := dk_132 2 1 (dk_at dksX6_pass_4 0 rfl rfl)
theorem dX6_pass_99 : decode cX6_pass 99 = .ok (.goto (-92), 3) := dk_167 255 164 (dk_at dksX6_pass_4 3 rfl rfl)
theorem dX6_pass_102 : decode cX6_pass 102 = .ok (.iconst 0, 1) := dk_3 (dk_at dksX6_pass_4 6 rfl rfl)
theorem dX6_pass_103 : decode cX6_pass 103 = .ok (.istore_n 2, 1) := dk_61 (dk_at dksX6_pass_4 7 rfl rfl)
theorem dX6_pass_104 : decode cX6_pass 104 = .ok (.iload_n 2, 1) := dk_28 (dk_at dksX6_pass_4 8 rfl rfl)
theorem dX6_pass_105 : decode cX6_pass 105 = .ok (.aload_n 0, 1) := dk_42 (dk_at dksX6_pass_4 9 rfl rfl)
theorem dX6_pass_106 : decode cX6_pass 106 = .ok (.getfield 3, 3) := dk_180 0 3 (dk_at dksX6_pass_4 10 rfl rfl)
theorem dX6_pass_109 : decode cX6_pass 109 = .ok (.invokevirtual 34, 3) := dk_182 0 34 (dk_at dksX6_pass_4 13 rfl rfl)
theorem dX6_pass_112 : decode cX6_pass 112 = .ok (.if_icmp .ge 22, 3) := dk_162 0 22 (dk_at dksX6_pass_4 16 rfl rfl)
theorem dX6_pass_115 : decode cX6_pass 115 = .ok (.aload_n 0, 1) := dk_42 (dk_at dksX6_pass_4 19 rfl rfl)
theorem dX6_pass_116 : decode cX6_pass 116 = .ok (.iload_n 2, 1) := dk_28 (dk_at dksX6_pass_4 20 rfl rfl)
theorem dX6_pass_117 : decode cX6_pass 117 = .ok (.invokevirtual 182, 3) := dk_182 0 182 (dk_at dksX6_pass_4 21 rfl rfl)
theorem dX6_pass_120 : decode cX6_pass 120 = .ok (.ifCond .eq 8, 3) := dk_153 0 8 (dk_at dksX6_pass_5 0 rfl rfl)
theorem dX6_pass_123 : decode cX6_pass 123 = .ok (.aload_n 0, 1) := dk_42 (dk_at dksX6_pass_5 3 rfl rfl)
theorem dX6_pass_124 : decode cX6_pass 124 = .ok (.iload_n 2, 1) := dk_28 (dk_at dksX6_pass_5 4 rfl rfl)
theorem dX6_pass_125 : decode cX6_pass 125 = .ok (.invokevirtual 186, 3) := dk_182 0 186 (dk_at dksX6_pass_5 5 rfl rfl)
theorem dX6_pass_128 : decode cX6_pass 128 = .ok (.iinc 2 1, 3) := dk_132 2 1 (dk_at dksX6_pass_5 8 rfl rfl)
theorem dX6_pass_131 : decode cX6_pass 131 = .ok (.goto (-27), 3) := dk_167 255 229 (dk_at dksX6_pass_5 11 rfl rfl)
theorem dX6_pass_134 : decode cX6_pass 134 = .ok (.iconst 0, 1) := dk_3 (dk_at dksX6_pass_5 14 rfl rfl)
theorem dX6_pass_135 : decode cX6_pass 135 = .ok (.istore_n 2, 1) := dk_61 (dk_at dksX6_pass_5 15 rfl rfl)
theorem dX6_pass_136 : decode cX6_pass 136 = .ok (.iload_n 2, 1) := dk_28 (dk_at dksX6_pass_5 16 rfl rfl)
theorem dX6_pass_137 : decode cX6_pass 137 = .ok (.aload_n 0, 1) := dk_42 (dk_at dksX6_pass_5 17 rfl rfl)
theorem dX6_pass_138 : decode cX6_pass 138 = .ok (.getfield 3, 3) := dk_180 0 3 (dk_at dksX6_pass_5 18 rfl rfl)
theorem dX6_pass_141 : decode cX6_pass 141 = .ok (.invokevirtual 34, 3) := dk_182 0 34 (dk_at dksX6_pass_5 21 rfl rfl)
theorem dX6_pass_144 : decode cX6_pass 144 = .ok (.if_icmp .ge 29, 3) := dk_162 0 29 (dk_at dksX6_pass_6 0 rfl rfl)
theorem dX6_pass_147 : decode cX6_pass 147 = .ok (.aload_n 0, 1) := dk_42 (dk_at dksX6_pass_6 3 rfl rfl)
theorem dX6_pass_148 : decode cX6_pass 148 = .ok (.getfield 28, 3) := dk_180 0 28 (dk_at dksX6_pass_6 4 rfl rfl)
theorem dX6_pass_151 : decode cX6_pass 151 = .ok (.iload_n 2, 1) := dk_28 (dk_at dksX6_pass_6 7 rfl rfl)
theorem dX6_pass_152 : decode cX6_pass 152 = .ok (.iconst 0, 1) := dk_3 (dk_at dksX6_pass_6 8 rfl rfl)
theorem dX6_pass_153 : decode cX6_pass 153 = .ok (.iastore, 1) := dk_79 (dk_at dksX6_pass_6 9 rfl rfl)
theorem dX6_pass_154 : decode cX6_pass 154 = .ok (.aload_n 0, 1) := dk_42 (dk_at dksX6_pass_6 10 rfl rfl)
theorem dX6_pass_155 : decode cX6_pass 155 = .ok (.iload_n 2, 1) := dk_28 (dk_at dksX6_pass_6 11 rfl rfl)
theorem dX6_pass_156 : decode cX6_pass 156 = .ok (.invokevirtual 182, 3) := dk_182 0 182 (dk_at dksX6_pass_6 12 rfl rfl)
theorem dX6_pass_159 : decode cX6_pass 159 = .ok (.ifCond .eq 8, 3) := dk_153 0 8 (dk_at dksX6_pass_6 15 rfl rfl)
theorem dX6_pass_162 : decode cX6_pass 162 = .ok (.aload_n 0, 1) := dk_42 (dk_at dksX6_pass_6 18 rfl rfl)
theorem dX6_pass_163 : decode cX6_pass 163 = .ok (.iload_n 2, 1) := dk_28 (dk_at dksX6_pass_6 19 rfl rfl)
theorem dX6_pass_164 : decode cX6_pass 164 = .ok (.invokevirtual 190, 3) := dk_182 0 190 (dk_at dksX6_pass_6 20 rfl rfl)
theorem dX6_pass_167 : decode cX6_pass 167 = .ok (.iinc 2 1, 3) := dk_132 2 1 (dk_at dksX6_pass_7 0 rfl rfl)
theorem dX6_pass_170 : decode cX6_pass 170 = .ok (.goto (-34), 3) := dk_167 255 222 (dk_at dksX6_pass_7 3 rfl rfl)
theorem dX6_pass_173 : decode cX6_pass 173 = .ok (.iconst 0, 1) := dk_3 (dk_at dksX6_pass_7 6 rfl rfl)
theorem dX6_pass_174 : decode cX6_pass 174 = .ok (.istore_n 2, 1) := dk_61 (dk_at dksX6_pass_7 7 rfl rfl)
theorem dX6_pass_175 : decode cX6_pass 175 = .ok (.iload_n 2, 1) := dk_28 (dk_at dksX6_pass_7 8 rfl rfl)
theorem dX6_pass_176 : decode cX6_pass 176 = .ok (.aload_n 0, 1) := dk_42 (dk_at dksX6_pass_7 9 rfl rfl)
theorem dX6_pass_177 : decode cX6_pass 177 = .ok (.getfield 3, 3) := dk_180 0 3 (dk_at dksX6_pass_7 10 rfl rfl)
theorem dX6_pass_180 : decode cX6_pass 180 = .ok (.invokevirtual 34, 3) := dk_182 0 34 (dk_at dksX6_pass_7 13 rfl rfl)
theorem dX6_pass_183 : decode cX6_pass 183 = .ok (.if_icmp .ge 92, 3) := dk_162 0 92 (dk_at dksX6_pass_7 16 rfl rfl)
theorem dX6_pass_186 : decode cX6_pass 186 = .ok (.iload_n 2, 1) := dk_28 (dk_at dksX6_pass_7 19 rfl rfl)
theorem dX6_pass_187 : decode cX6_pass 187 = .ok (.iconst 1, 1) := dk_4 (dk_at dksX6_pass_7 20 rfl rfl)
theorem dX6_pass_188 : decode cX6_pass 188 = .ok (.iadd, 1) := dk_96 (dk_at dksX6_pass_7 21 rfl rfl)
theorem dX6_pass_189 : decode cX6_pass 189 = .ok (.istore_n 3, 1) := dk_62 (dk_at dksX6_pass_7 22 rfl rfl)
theorem dX6_pass_190 : decode cX6_pass 190 = .ok (.iload_n 3, 1) := dk_29 (dk_at dksX6_pass_7 23 rfl rfl)
theorem dX6_pass_191 : decode cX6_pass 191 = .ok (.aload_n 0, 1) := dk_42 (dk_at dksX6_pass_8 0 rfl rfl)
theorem dX6_pass_192 : decode cX6_pass 192 = .ok (.getfield 3, 3) := dk_180 0 3 (dk_at dksX6_pass_8 1 rfl rfl)
theorem dX6_pass_195 : decode cX6_pass 195 = .ok (.invokevirtual 34, 3) := dk_182 0 34 (dk_at dksX6_pass_8 4 rfl rfl)
theorem dX6_pass_198 : decode cX6_pass 198 = .ok (.if_icmp .ge 71, 3) := dk_162 0 71 (dk_at dksX6_pass_8 7 rfl rfl)
theorem dX6_pass_201 : decode cX6_pass 201 = .ok (.aload_n 0, 1) := dk_42 (dk_at dksX6_pass_8 10 rfl rfl)
theorem dX6_pass_202 : decode cX6_pass 202 = .ok (.iload_n 2, 1) := dk_28 (dk_at dksX6_pass_8 11 rfl rfl)
theorem dX6_pass_203 : decode cX6_pass 203 = .ok (.invokevirtual 182, 3) := dk_182 0 182 (dk_at dksX6_pass_8 12 rfl rfl)
theorem dX6_pass_206 : decode cX6_pass 206 = .ok (.ifCond .eq 57, 3) := dk_153 0 57 (dk_at dksX6_pass_8 15 rfl rfl)
theorem dX6_pass_209 : decode cX6_pass 209 = .ok (.aload_n 0, 1) := dk_42 (dk_at dksX6_pass_8 18 rfl rfl)
theorem dX6_pass_210 : decode cX6_pass 210 = .ok (.iload_n 3, 1) := dk_29 (dk_at dksX6_pass_8 19 rfl rfl)
theorem dX6_pass_211 : decode cX6_pass 211 = .ok (.invokevirtual 182, 3) := dk_182 0 182 (dk_at dksX6_pass_8 20 rfl rfl)
theorem dX6_pass_214 : decode cX6_pass 214 = .ok (.ifCond .eq 49, 3) := dk_153 0 49 (dk_at dksX6_pass_9 0 rfl rfl)
theorem dX6_pass_217 : decode cX6_pass 217 = .ok (.aload_n 0, 1) := dk_42 (dk_at dksX6_pass_9 3 rfl rfl)
theorem dX6_pass_218 : decode cX6_pass 218 = .ok (.getfield 15, 3) := dk_180 0 15 (dk_at dksX6_pass_9 4 rfl rfl)
theorem dX6_pass_221 : decode cX6_pass 221 = .ok (.iload_n 2, 1) := dk_28 (dk_at dksX6_pass_9 7 rfl rfl)
theorem dX6_pass_222 : decode cX6_pass 222 = .ok (.iaload, 1) := dk_46 (dk_at dksX6_pass_9 8 rfl rfl)
theorem dX6_pass_223 : decode cX6_pass 223 = .ok (.aload_n 0, 1) := dk_42 (dk_at dksX6_pass_9 9 rfl rfl)
theorem dX6_pass_224 : decode cX6_pass 224 = .ok (.getfield 15, 3) := dk_180 0 15 (dk_at dksX6_pass_9 10 rfl rfl)
theorem dX6_pass_227 : decode cX6_pass 227 = .ok (.iload_n 3, 1) := dk_29 (dk_at dksX6_pass_9 13 rfl rfl)
theorem dX6_pass_228 : decode cX6_pass 228 = .ok (.iaload, 1) := dk_46 (dk_at dksX6_pass_9 14 rfl rfl)
theorem dX6_pass_229 : decode cX6_pass 229 = .ok (.if_icmp .ne 34, 3) := dk_160 0 34 (dk_at dksX6_pass_9 15 rfl rfl)
theorem dX6_pass_232 : decode cX6_pass 232 = .ok (.aload_n 0, 1) := dk_42 (dk_at dksX6_pass_9 18 rfl rfl)
theorem dX6_pass_233 : decode cX6_pass 233 = .ok (.getfield 3, 3) := dk_180 0 3 (dk_at dksX6_pass_9 19 rfl rfl)
theorem dX6_pass_236 : decode cX6_pass 236 = .ok (.iload_n 2, 1) := dk_28 (dk_at dksX6_pass_9 22 rfl rfl)
theorem dX6_pass_237 : decode cX6_pass 237 = .ok (.invokevirtual 38, 3) := dk_182 0 38 (dk_at dksX6_pass_10 0 rfl rfl)
theorem dX6_pass_240 : decode cX6_pass 240 = .ok (.getfield 123, 3) := dk_180 0 123 (dk_at dksX6_pass_10 3 rfl rfl)
theorem dX6_pass_243 : decode cX6_pass 243 = .ok (.aload_n 0, 1) := dk_42 (dk_at dksX6_pass_10 6 rfl rfl)
theorem dX6_pass_244 : decode cX6_pass 244 = .ok (.getfield 3, 3) := dk_180 0 3 (dk_at dksX6_pass_10 7 rfl rfl)
theorem dX6_pass_247 : decode cX6_pass 247 = .ok (.iload_n 3, 1) := dk_29 (dk_at dksX6_pass_10 10 rfl rfl)
theorem dX6_pass_248 : decode cX6_pass 248 = .ok (.invokevirtual 38, 3) := dk_182 0 38 (dk_at dksX6_pass_10 11 rfl rfl)
theorem dX6_pass_251 : decode cX6_pass 251 = .ok (.getfield 123, 3) := dk_180 0 123 (dk_at dksX6_pass_10 14 rfl rfl)
theorem dX6_pass_254 : decode cX6_pass 254 = .ok (.if_icmp .eq 9, 3) := dk_159 0 9 (dk_at dksX6_pass_10 17 rfl rfl)
theorem dX6_pass_257 : decode cX6_pass 257 = .ok (.aload_n 0, 1) := dk_42 (dk_at dksX6_pass_10 20 rfl rfl)
theorem dX6_pass_258 : decode cX6_pass 258 = .ok (.iload_n 2, 1) := dk_28 (dk_at dksX6_pass_10 21 rfl rfl)
theorem dX6_pass_259 : decode cX6_pass 259 = .ok (.iload_n 3, 1) := dk_29 (dk_at dksX6_pass_10 22 rfl rfl)
theorem dX6_pass_260 : decode cX6_pass 260 = .ok (.invokevirtual 193, 3) := dk_182 0 193 (dk_at dksX6_pass_11 0 rfl rfl)
theorem dX6_pass_263 : decode cX6_pass 263 = .ok (.iinc 3 1, 3) := dk_132 3 1 (dk_at dksX6_pass_11 3 rfl rfl)
theorem dX6_pass_266 : decode cX6_pass 266 = .ok (.goto (-76), 3) := dk_167 255 180 (dk_at dksX6_pass_11 6 rfl rfl)
theorem dX6_pass_269 : decode cX6_pass 269 = .ok (.iinc 2 1, 3) := dk_132 2 1 (dk_at dksX6_pass_11 9 rfl rfl)
theorem dX6_pass_272 : decode cX6_pass 272 = .ok (.goto (-97), 3) := dk_167 255 159 (dk_at dksX6_pass_11 12 rfl rfl)
theorem dX6_pass_275 : decode cX6_pass 275 = .ok (.iconst 0, 1) := dk_3 (dk_at dksX6_pass_11 15 rfl rfl)
theorem dX6_pass_276 : decode cX6_pass 276 = .ok (.istore_n 2, 1) := dk_61 (dk_at dksX6_pass_11 16 rfl rfl)
theorem dX6_pass_277 : decode cX6_pass 277 = .ok (.iload_n 2, 1) := dk_28 (dk_at dksX6_pass_11 17 rfl rfl)
theorem dX6_pass_278 : decode cX6_pass 278 = .ok (.aload_n 0, 1) := dk_42 (dk_at dksX6_pass_11 18 rfl rfl)
theorem dX6_pass_279 : decode cX6_pass 279 = .ok (.getfield 3, 3) := dk_180 0 3 (dk_at dksX6_pass_11 19 rfl rfl)
theorem dX6_pass_282 : decode cX6_pass 282 = .ok (.invokevirtual 34, 3) := dk_182 0 34 (dk_at dksX6_pass_12 0 rfl rfl)
theorem dX6_pass_285 : decode cX6_pass 285 = .ok (.if_icmp .ge 45, 3) := dk_162 0 45 (dk_at dksX6_pass_12 3 rfl rfl)
theorem dX6_pass_288 : decode cX6_pass 288 = .ok (.aload_n 0, 1) := dk_42 (dk_at dksX6_pass_12 6 rfl rfl)
theorem dX6_pass_289 : decode cX6_pass 289 = .ok (.getfield 19, 3) := dk_180 0 19 (dk_at dksX6_pass_12 7 rfl rfl)
theorem dX6_pass_292 : decode cX6_pass 292 = .ok (.iload_n 2, 1) := dk_28 (dk_at dksX6_pass_12 10 rfl rfl)
theorem dX6_pass_293 : decode cX6_pass 293 = .ok (.iaload, 1) := dk_46 (dk_at dksX6_pass_12 11 rfl rfl)
theorem dX6_pass_294 : decode cX6_pass 294 = .ok (.bipush 100, 2) := dk_16 100 (dk_at dksX6_pass_12 12 rfl rfl)
theorem dX6_pass_296 : decode cX6_pass 296 = .ok (.if_icmp .ge 14, 3) := dk_162 0 14 (dk_at dksX6_pass_12 14 rfl rfl)
theorem dX6_pass_299 : decode cX6_pass 299 = .ok (.aload_n 0, 1) := dk_42 (dk_at dksX6_pass_12 17 rfl rfl)
theorem dX6_pass_300 : decode cX6_pass 300 = .ok (.getfield 25, 3) := dk_180 0 25 (dk_at dksX6_pass_12 18 rfl rfl)
theorem dX6_pass_303 : decode cX6_pass 303 = .ok (.iload_n 2, 1) := dk_28 (dk_at dksX6_pass_12 21 rfl rfl)
theorem dX6_pass_304 : decode cX6_pass 304 = .ok (.iaload, 1) := dk_46 (dk_at dksX6_pass_12 22 rfl rfl)
theorem dX6_pass_305 : decode cX6_pass 305 = .ok (.bipush 100, 2) := dk_16 100 (dk_at dksX6_pass_13 0 rfl rfl)
theorem dX6_pass_307 : decode cX6_pass 307 = .ok (.if_icmp .lt 17, 3) := dk_161 0 17 (dk_at dksX6_pass_13 2 rfl rfl)
theorem dX6_pass_310 : decode cX6_pass 310 = .ok (.aload_n 0, 1) := dk_42 (dk_at dksX6_pass_13 5 rfl rfl)
theorem dX6_pass_311 : decode cX6_pass 311 = .ok (.dup, 1) := dk_89 (dk_at dksX6_pass_13 6 rfl rfl)
theorem dX6_pass_312 : decode cX6_pass 312 = .ok (.getfield 64, 3) := dk_180 0 64 (dk_at dksX6_pass_13 7 rfl rfl)
theorem dX6_pass_315 : decode cX6_pass 315 = .ok (.iconst 1, 1) := dk_4 (dk_at dksX6_pass_13 10 rfl rfl)
theorem dX6_pass_316 : decode cX6_pass 316 = .ok (.iload_n 2, 1) := dk_28 (dk_at dksX6_pass_13 11 rfl rfl)
theorem dX6_pass_317 : decode cX6_pass 317 = .ok (.ishl, 1) := dk_120 (dk_at dksX6_pass_13 12 rfl rfl)
theorem dX6_pass_318 : decode cX6_pass 318 = .ok (.iconst (-1), 1) := dk_2 (dk_at dksX6_pass_13 13 rfl rfl)
theorem dX6_pass_319 : decode cX6_pass 319 = .ok (.ixor, 1) := dk_130 (dk_at dksX6_pass_13 14 rfl rfl)
theorem dX6_pass_320 : decode cX6_pass 320 = .ok (.iand, 1) := dk_126 (dk_at dksX6_pass_13 15 rfl rfl)
theorem dX6_pass_321 : decode cX6_pass 321 = .ok (.putfield 64, 3) := dk_181 0 64 (dk_at dksX6_pass_13 16 rfl rfl)
theorem dX6_pass_324 : decode cX6_pass 324 = .ok (.iinc 2 1, 3) := dk_132 2 1 (dk_at dksX6_pass_13 19 rfl rfl)
theorem dX6_pass_327 : decode cX6_pass 327 = .ok (.goto (-50), 3) := dk_167 255 206 (dk_at dksX6_pass_14 0 rfl rfl)
theorem dX6_pass_330 : decode cX6_pass 330 = .ok (.iconst 0, 1) := dk_3 (dk_at dksX6_pass_14 3 rfl rfl)
theorem dX6_pass_331 : decode cX6_pass 331 = .ok (.istore_n 2, 1) := dk_61 (dk_at dksX6_pass_14 4 rfl rfl)
theorem dX6_pass_332 : decode cX6_pass 332 = .ok (.iload_n 2, 1) := dk_28 (dk_at dksX6_pass_14 5 rfl rfl)
theorem dX6_pass_333 : decode cX6_pass 333 = .ok (.aload_n 0, 1) := dk_42 (dk_at dksX6_pass_14 6 rfl rfl)
theorem dX6_pass_334 : decode cX6_pass 334 = .ok (.getfield 3, 3) := dk_180 0 3 (dk_at dksX6_pass_14 7 rfl rfl)
theorem dX6_pass_337 : decode cX6_pass 337 = .ok (.invokevirtual 50, 3) := dk_182 0 50 (dk_at dksX6_pass_14 10 rfl rfl)
theorem dX6_pass_340 : decode cX6_pass 340 = .ok (.if_icmp .ge 58, 3) := dk_162 0 58 (dk_at dksX6_pass_14 13 rfl rfl)
theorem dX6_pass_343 : decode cX6_pass 343 = .ok (.aload_n 0, 1) := dk_42 (dk_at dksX6_pass_14 16 rfl rfl)
theorem dX6_pass_344 : decode cX6_pass 344 = .ok (.getfield 61, 3) := dk_180 0 61 (dk_at dksX6_pass_14 17 rfl rfl)
theorem dX6_pass_347 : decode cX6_pass 347 = .ok (.bipush 10, 2) := dk_16 10 (dk_at dksX6_pass_14 20 rfl rfl)
theorem dX6_pass_349 : decode cX6_pass 349 = .ok (.irem, 1) := dk_112 (dk_at dksX6_pass_14 22 rfl rfl)
theorem dX6_pass_350 : decode cX6_pass 350 = .ok (.bipush 9, 2) := dk_16 9 (dk_at dksX6_pass_15 0 rfl rfl)
theorem dX6_pass_352 : decode cX6_pass 352 = .ok (.if_icmp .ne 46, 3) := dk_160 0 46 (dk_at dksX6_pass_15 2 rfl rfl)
theorem dX6_pass_355 : decode cX6_pass 355 = .ok (.aload_n 0, 1) := dk_42 (dk_at dksX6_pass_15 5 rfl rfl)
theorem dX6_pass_356 : decode cX6_pass 356 = .ok (.iload_n 1, 1) := dk_27 (dk_at dksX6_pass_15 6 rfl rfl)
theorem dX6_pass_357 : decode cX6_pass 357 = .ok (.invokevirtual 197, 3) := dk_182 0 197 (dk_at dksX6_pass_15 7 rfl rfl)
theorem dX6_pass_360 : decode cX6_pass 360 = .ok (.ifCond .eq 32, 3) := dk_153 0 32 (dk_at dksX6_pass_15 10 rfl rfl)
theorem dX6_pass_363 : decode cX6_pass 363 = .ok (.aload_n 0, 1) := dk_42 (dk_at dksX6_pass_15 13 rfl rfl)
theorem dX6_pass_364 : decode cX6_pass 364 = .ok (.getfield 31, 3) := dk_180 0 31 (dk_at dksX6_pass_15 14 rfl rfl)
theorem dX6_pass_367 : decode cX6_pass 367 = .ok (.iload_n 2, 1) := dk_28 (dk_at dksX6_pass_15 17 rfl rfl)
theorem dX6_pass_368 : decode cX6_pass 368 = .ok (.bipush 99, 2) := dk_16 99 (dk_at dksX6_pass_15 18 rfl rfl)
theorem dX6_pass_370 : decode cX6_pass 370 = .ok (.aload_n 0, 1) := dk_42 (dk_at dksX6_pass_15 20 rfl rfl)
theorem dX6_pass_371 : decode cX6_pass 371 = .ok (.getfield 31, 3) := dk_180 0 31 (dk_at dksX6_pass_15 21 rfl rfl)
theorem dX6_pass_374 : decode cX6_pass 374 = .ok (.iload_n 2, 1) := dk_28 (dk_at dksX6_pass_16 0 rfl rfl)
theorem dX6_pass_375 : decode cX6_pass 375 = .ok (.iaload, 1) := dk_46 (dk_at dksX6_pass_16 1 rfl rfl)
theorem dX6_pass_376 : decode cX6_pass 376 = .ok (.aload_n 0, 1) := dk_42 (dk_at dksX6_pass_16 2 rfl rfl)
theorem dX6_pass_377 : decode cX6_pass 377 = .ok (.getfield 3, 3) := dk_180 0 3 (dk_at dksX6_pass_16 3 rfl rfl)
theorem dX6_pass_380 : decode cX6_pass 380 = .ok (.iload_n 2, 1) := dk_28 (dk_at dksX6_pass_16 6 rfl rfl)
theorem dX6_pass_381 : decode cX6_pass 381 = .ok (.invokevirtual 53, 3) := dk_182 0 53 (dk_at dksX6_pass_16 7 rfl rfl)
theorem dX6_pass_384 : decode cX6_pass 384 = .ok (.getfield 201, 3) := dk_180 0 201 (dk_at dksX6_pass_16 10 rfl rfl)
theorem dX6_pass_387 : decode cX6_pass 387 = .ok (.iadd, 1) := dk_96 (dk_at dksX6_pass_16 13 rfl rfl)
theorem dX6_pass_388 : decode cX6_pass 388 = .ok (.invokestatic 132, 3) := dk_184 0 132 (dk_at dksX6_pass_16 14 rfl rfl)
theorem dX6_pass_391 : decode cX6_pass 391 = .ok (.iastore, 1) := dk_79 (dk_at dksX6_pass_16 17 rfl rfl)
theorem dX6_pass_392 : decode cX6_pass 392 = .ok (.iinc 2 1, 3) := dk_132 2 1 (dk_at dksX6_pass_16 18 rfl rfl)
theorem dX6_pass_395 : decode cX6_pass 395 = .ok (.goto (-63), 3) := dk_167 255 193 (dk_at dksX6_pass_16 21 rfl rfl)
theorem dX6_pass_398 : decode cX6_pass 398 = .ok (.aload_n 0, 1) := dk_42 (dk_at dksX6_pass_17 0 rfl rfl)
theorem dX6_pass_399 : decode cX6_pass 399 = .ok (.dup, 1) := dk_89 (dk_at dksX6_pass_17 1 rfl rfl)
theorem dX6_pass_400 : decode cX6_pass 400 = .ok (.getfield 61, 3) := dk_180 0 61 (dk_at dksX6_pass_17 2 rfl rfl)
theorem dX6_pass_403 : decode cX6_pass 403 = .ok (.iconst 1, 1) := dk_4 (dk_at dksX6_pass_17 5 rfl rfl)
theorem dX6_pass_404 : decode cX6_pass 404 = .ok (.iadd, 1) := dk_96 (dk_at dksX6_pass_17 6 rfl rfl)
theorem dX6_pass_405 : decode cX6_pass 405 = .ok (.putfield 61, 3) := dk_181 0 61 (dk_at dksX6_pass_17 7 rfl rfl)
theorem dX6_pass_408 : decode cX6_pass 408 = .ok (.return_, 1) := dk_177 (dk_at dksX6_pass_17 10 rfl rfl)
abbrev cX6_walk : ByteArray := prog_17_method_9_code
def yX6_walk : MethodName := ⟨RX6, "walk", "(I)V"⟩
def dkwX6_walk_3 : List UInt8 := [180, 0, 3, 180, 0, 139, 42, 27, 182, 0, 143, 96, 79, 177]
abbrev dktX6_walk_3 : List UInt8 := dkwX6_walk_3 ++ []
def dkwX6_walk_2 : List UInt8 := [42, 27, 182, 0, 119, 28, 184, 0, 132, 184, 0, 136, 96, 79, 42, 180, 0, 19, 27, 92, 46, 42]
abbrev dktX6_walk_2 : List UInt8 := dkwX6_walk_2 ++ dktX6_walk_3
def dkwX6_walk_1 : List UInt8 := [180, 0, 126, 42, 180, 0, 15, 27, 46, 100, 61, 42, 180, 0, 15, 27, 92, 46, 42, 27, 182, 0, 119, 116]
abbrev dktX6_walk_1 : List UInt8 := dkwX6_walk_1 ++ dktX6_walk_2
def dkwX6_walk_0 : List UInt8 := [42, 180, 0, 22, 27, 46, 2, 159, 0, 54, 42, 180, 0, 3, 42, 180, 0, 22, 27, 46, 182, 0, 53]
abbrev dktX6_walk_0 : List UInt8 := dkwX6_walk_0 ++ dktX6_walk_1
theorem dksX6_walk_0 : cX6_walk.data.toList.drop 0 = dktX6_walk_0 := by decide +kernel
theorem dksX6_walk_1 : cX6_walk.data.toList.drop 23 = dktX6_walk_1 := dk_seg dksX6_walk_0 23 rfl rfl
theorem dksX6_walk_2 : cX6_walk.data.toList.drop 47 = dktX6_walk_2 := dk_seg dksX6_walk_1 24 rfl rfl
theorem dksX6_walk_3 : cX6_walk.data.toList.drop 69 = dktX6_walk_3 := dk_seg dksX6_walk_2 22 rfl rfl
theorem dX6_walk_0 : decode cX6_walk 0 = .ok (.aload_n 0, 1) := dk_42 (dk_at dksX6_walk_0 0 rfl rfl)
theorem dX6_walk_1 : decode cX6_walk 1 = .ok (.getfield 22, 3) := dk_180 0 22 (dk_at dksX6_walk_0 1 rfl rfl)
theorem dX6_walk_4 : decode cX6_walk 4 = .ok (.iload_n 1, 1) := dk_27 (dk_at dksX6_walk_0 4 rfl rfl)
theorem dX6_walk_5 : decode cX6_walk 5 = .ok (.iaload, 1) := dk_46 (dk_at dksX6_walk_0 5 rfl rfl)
theorem dX6_walk_6 : decode cX6_walk 6 = .ok (.iconst (-1), 1) := dk_2 (dk_at dksX6_walk_0 6 rfl rfl)
theorem dX6_walk_7 : decode cX6_walk 7 = .ok (.if_icmp .eq 54, 3) := dk_159 0 54 (dk_at dksX6_walk_0 7 rfl rfl)
theorem dX6_walk_10 : decode cX6_walk 10 = .ok (.aload_n 0, 1) := dk_42 (dk_at dksX6_walk_0 10 rfl rfl)
theorem dX6_walk_11 : decode cX6_walk 11 = .ok (.getfield 3, 3) := dk_180 0 3 (dk_at dksX6_walk_0 11 rfl rfl)
theorem dX6_walk_14 : decode cX6_walk 14 = .ok (.aload_n 0, 1) := dk_42 (dk_at dksX6_walk_0 14 rfl rfl)
theorem dX6_walk_15 : decode cX6_walk 15 = .ok (.getfield 22, 3) := dk_180 0 22 (dk_at dksX6_walk_0 15 rfl rfl)
theorem dX6_walk_18 : decode cX6_walk 18 = .ok (.iload_n 1, 1) := dk_27 (dk_at dksX6_walk_0 18 rfl rfl)
theorem dX6_walk_19 : decode cX6_walk 19 = .ok (.iaload, 1) := dk_46 (dk_at dksX6_walk_0 19 rfl rfl)
theorem dX6_walk_20 : decode cX6_walk 20 = .ok (.invokevirtual 53, 3) := dk_182 0 53 (dk_at dksX6_walk_0 20 rfl rfl)
theorem dX6_walk_23 : decode cX6_walk 23 = .ok (.getfield 126, 3) := dk_180 0 126 (dk_at dksX6_walk_1 0 rfl rfl)
theorem dX6_walk_26 : decode cX6_walk 26 = .ok (.aload_n 0, 1) := dk_42 (dk_at dksX6_walk_1 3 rfl rfl)
theorem dX6_walk_27 : decode cX6_walk 27 = .ok (.getfield 15, 3) := dk_180 0 15 (dk_at dksX6_walk_1 4 rfl rfl)
theorem dX6_walk_30 : decode cX6_walk 30 = .ok (.iload_n 1, 1) := dk_27 (dk_at dksX6_walk_1 7 rfl rfl)
theorem dX6_walk_31 : decode cX6_walk 31 = .ok (.iaload, 1) := dk_46 (dk_at dksX6_walk_1 8 rfl rfl)
theorem dX6_walk_32 : decode cX6_walk 32 = .ok (.isub, 1) := dk_100 (dk_at dksX6_walk_1 9 rfl rfl)
theorem dX6_walk_33 : decode cX6_walk 33 = .ok (.istore_n 2, 1) := dk_61 (dk_at dksX6_walk_1 10 rfl rfl)
theorem dX6_walk_34 : decode cX6_walk 34 = .ok (.aload_n 0, 1) := dk_42 (dk_at dksX6_walk_1 11 rfl rfl)
theorem dX6_walk_35 : decode cX6_walk 35 = .ok (.getfield 15, 3) := dk_180 0 15 (dk_at dksX6_walk_1 12 rfl rfl)
theorem dX6_walk_38 : decode cX6_walk 38 = .ok (.iload_n 1, 1) := dk_27 (dk_at dksX6_walk_1 15 rfl rfl)
theorem dX6_walk_39 : decode cX6_walk 39 = .ok (.dup2, 1) := dk_92 (dk_at dksX6_walk_1 16 rfl rfl)
theorem dX6_walk_40 : decode cX6_walk 40 = .ok (.iaload, 1) := dk_46 (dk_at dksX6_walk_1 17 rfl rfl)
theorem dX6_walk_41 : decode cX6_walk 41 = .ok (.aload_n 0, 1) := dk_42 (dk_at dksX6_walk_1 18 rfl rfl)
theorem dX6_walk_42 : decode cX6_walk 42 = .ok (.iload_n 1, 1) := dk_27 (dk_at dksX6_walk_1 19 rfl rfl)
theorem dX6_walk_43 : decode cX6_walk 43 = .ok (.invokevirtual 119, 3) := dk_182 0 119 (dk_at dksX6_walk_1 20 rfl rfl)
theorem dX6_walk_46 : decode cX6_walk 46 = .ok (.ineg, 1) := dk_116 (dk_at dksX6_walk_1 23 rfl rfl)
theorem dX6_walk_47 : decode cX6_walk 47 = .ok (.aload_n 0, 1) := dk_42 (dk_at dksX6_walk_2 0 rfl rfl)
theorem dX6_walk_48 : decode cX6_walk 48 = .ok (.iload_n 1, 1) := dk_27 (dk_at dksX6_walk_2 1 rfl rfl)
theorem dX6_walk_49 : decode cX6_walk 49 = .ok (.invokevirtual 119, 3) := dk_182 0 119 (dk_at dksX6_walk_2 2 rfl rfl)
theorem dX6_walk_52 : decode cX6_walk 52 = .ok (.iload_n 2, 1) := dk_28 (dk_at dksX6_walk_2 5 rfl rfl)
theorem dX6_walk_53 : decode cX6_walk 53 = .ok (.invokestatic 132, 3) := dk_184 0 132 (dk_at dksX6_walk_2 6 rfl rfl)
theorem dX6_walk_56 : decode cX6_walk 56 = .ok (.invokestatic 136, 3) := dk_184 0 136 (dk_at dksX6_walk_2 9 rfl rfl)
theorem dX6_walk_59 : decode cX6_walk 59 = .ok (.iadd, 1) := dk_96 (dk_at dksX6_walk_2 12 rfl rfl)
theorem dX6_walk_60 : decode cX6_walk 60 = .ok (.iastore, 1) := dk_79 (dk_at dksX6_walk_2 13 rfl rfl)
theorem dX6_walk_61 : decode cX6_walk 61 = .ok (.aload_n 0, 1) := dk_42 (dk_at dksX6_walk_2 14 rfl rfl)
theorem dX6_walk_62 : decode cX6_walk 62 = .ok (.getfield 19, 3) := dk_180 0 19 (dk_at dksX6_walk_2 15 rfl rfl)
theorem dX6_walk_65 : decode cX6_walk 65 = .ok (.iload_n 1, 1) := dk_27 (dk_at dksX6_walk_2 18 rfl rfl)
theorem dX6_walk_66 : decode cX6_walk 66 = .ok (.dup2, 1) := dk_92 (dk_at dksX6_walk_2 19 rfl rfl)
theorem dX6_walk_67 : decode cX6_walk 67 = .ok (.iaload, 1) := dk_46 (dk_at dksX6_walk_2 20 rfl rfl)
theorem dX6_walk_68 : decode cX6_walk 68 = .ok (.aload_n 0, 1) := dk_42 (dk_at dksX6_walk_2 21 rfl rfl)
theorem dX6_walk_69 : decode cX6_walk 69 = .ok (.getfield 3, 3) := dk_180 0 3 (dk_at dksX6_walk_3 0 rfl rfl)
theorem dX6_walk_72 : decode cX6_walk 72 = .ok (.getfield 139, 3) := dk_180 0 139 (dk_at dksX6_walk_3 3 rfl rfl)
theorem dX6_walk_75 : decode cX6_walk 75 = .ok (.aload_n 0, 1) := dk_42 (dk_at dksX6_walk_3 6 rfl rfl)
theorem dX6_walk_76 : decode cX6_walk 76 = .ok (.iload_n 1, 1) := dk_27 (dk_at dksX6_walk_3 7 rfl rfl)
theorem dX6_walk_77 : decode cX6_walk 77 = .ok (.invokevirtual 143, 3) := dk_182 0 143 (dk_at dksX6_walk_3 8 rfl rfl)
theorem dX6_walk_80 : decode cX6_walk 80 = .ok (.iadd, 1) := dk_96 (dk_at dksX6_walk_3 11 rfl rfl)
theorem dX6_walk_81 : decode cX6_walk 81 = .ok (.iastore, 1) := dk_79 (dk_at dksX6_walk_3 12 rfl rfl)
theorem dX6_walk_82 : decode cX6_walk 82 = .ok (.return_, 1) := dk_177 (dk_at dksX6_walk_3 13 rfl rfl)
abbrev cX6_drink : ByteArray := prog_17_method_10_code
def yX6_drink : MethodName := ⟨RX6, "drink", "(I)V"⟩
def dkwX6_drink_5 : List UInt8 := [96, 181, 0, 73, 177]
abbrev dktX6_drink_5 : List UInt8 := dkwX6_drink_5 ++ []
def dkwX6_drink_4 : List UInt8 := [79, 42, 180, 0, 31, 28, 92, 46, 29, 100, 79, 42, 180, 0, 28, 27, 29, 79, 42, 89, 180, 0, 73, 29]
abbrev dktX6_drink_4 : List UInt8 := dkwX6_drink_4 ++ dktX6_drink_5
def dkwX6_drink_3 : List UInt8 := [27, 46, 42, 180, 0, 31, 28, 46, 184, 0, 132, 184, 0, 132, 62, 42, 180, 0, 19, 27, 92, 46, 29, 100]
abbrev dktX6_drink_3 : List UInt8 := dkwX6_drink_3 ++ dktX6_drink_4
def dkwX6_drink_2 : List UInt8 := [180, 0, 88, 4, 160, 0, 4, 177, 42, 180, 0, 3, 180, 0, 139, 42, 27, 182, 0, 149, 42, 180, 0, 19]
abbrev dktX6_drink_2 : List UInt8 := dkwX6_drink_2 ++ dktX6_drink_3
def dkwX6_drink_1 : List UInt8 := [159, 0, 29, 42, 180, 0, 19, 27, 46, 153, 0, 20, 42, 180, 0, 31, 28, 46, 153, 0, 11, 42]
abbrev dktX6_drink_1 : List UInt8 := dkwX6_drink_1 ++ dktX6_drink_2
def dkwX6_drink_0 : List UInt8 := [42, 180, 0, 3, 180, 0, 76, 180, 0, 107, 42, 180, 0, 15, 27, 46, 184, 0, 110, 61, 28, 2]
abbrev dktX6_drink_0 : List UInt8 := dkwX6_drink_0 ++ dktX6_drink_1
theorem dksX6_drink_0 : cX6_drink.data.toList.drop 0 = dktX6_drink_0 := by decide +kernel
theorem dksX6_drink_1 : cX6_drink.data.toList.drop 22 = dktX6_drink_1 := dk_seg dksX6_drink_0 22 rfl rfl
theorem dksX6_drink_2 : cX6_drink.data.toList.drop 44 = dktX6_drink_2 := dk_seg dksX6_drink_1 22 rfl rfl
theorem dksX6_drink_3 : cX6_drink.data.toList.drop 68 = dktX6_drink_3 := dk_seg dksX6_drink_2 24 rfl rfl
theorem dksX6_drink_4 : cX6_drink.data.toList.drop 92 = dktX6_drink_4 := dk_seg dksX6_drink_3 24 rfl rfl
theorem dksX6_drink_5 : cX6_drink.data.toList.drop 116 = dktX6_drink_5 := dk_seg dksX6_drink_4 24 rfl rfl
theorem dX6_drink_0 : decode cX6_drink 0 = .ok (.aload_n 0, 1) := dk_42 (dk_at dksX6_drink_0 0 rfl rfl)
theorem dX6_drink_1 : decode cX6_drink 1 = .ok (.getfield 3, 3) := dk_180 0 3 (dk_at dksX6_drink_0 1 rfl rfl)
theorem dX6_drink_4 : decode cX6_drink 4 = .ok (.getfield 76, 3) := dk_180 0 76 (dk_at dksX6_drink_0 4 rfl rfl)
theorem dX6_drink_7 : decode cX6_drink 7 = .ok (.getfield 107, 3) := dk_180 0 107 (dk_at dksX6_drink_0 7 rfl rfl)
theorem dX6_drink_10 : decode cX6_drink 10 = .ok (.aload_n 0, 1) := dk_42 (dk_at dksX6_drink_0 10 rfl rfl)
theorem dX6_drink_11 : decode cX6_drink 11 = .ok (.getfield 15, 3) := dk_180 0 15 (dk_at dksX6_drink_0 11 rfl rfl)
theorem dX6_drink_14 : decode cX6_drink 14 = .ok (.iload_n 1, 1) := dk_27 (dk_at dksX6_drink_0 14 rfl rfl)
theorem dX6_drink_15 : decode cX6_drink 15 = .ok (.iaload, 1) := dk_46 (dk_at dksX6_drink_0 15 rfl rfl)
theorem dX6_drink_16 : decode cX6_drink 16 = .ok (.invokestatic 110, 3) := dk_184 0 110 (dk_at dksX6_drink_0 16 rfl rfl)
theorem dX6_drink_19 : decode cX6_drink 19 = .ok (.istore_n 2, 1) := dk_61 (dk_at dksX6_drink_0 19 rfl rfl)
theorem dX6_drink_20 : decode cX6_drink 20 = .ok (.iload_n 2, 1) := dk_28 (dk_at dksX6_drink_0 20 rfl rfl)
theorem dX6_drink_21 : decode cX6_drink 21 = .ok (.iconst (-1), 1) := dk_2 (dk_at dksX6_drink_0 21 rfl rfl)
theorem dX6_drink_22 : decode cX6_drink 22 = .ok (.if_icmp .eq 29, 3) := dk_159 0 29 (dk_at dksX6_drink_1 0 rfl rfl)
theorem dX6_drink_25 : decode cX6_drink 25 = .ok (.aload_n 0, 1) := dk_42 (dk_at dksX6_drink_1 3 rfl rfl)
theorem dX6_drink_26 : decode cX6_drink 26 = .ok (.getfield 19, 3) := dk_180 0 19 (dk_at dksX6_drink_1 4 rfl rfl)
theorem dX6_drink_29 : decode cX6_drink 29 = .ok (.iload_n 1, 1) := dk_27 (dk_at dksX6_drink_1 7 rfl rfl)
theorem dX6_drink_30 : decode cX6_drink 30 = .ok (.iaload, 1) := dk_46 (dk_at dksX6_drink_1 8 rfl rfl)
theorem dX6_drink_31 : decode cX6_drink 31 = .ok (.ifCond .eq 20, 3) := dk_153 0 20 (dk_at dksX6_drink_1 9 rfl rfl)
theorem dX6_drink_34 : decode cX6_drink 34 = .ok (.aload_n 0, 1) := dk_42 (dk_at dksX6_drink_1 12 rfl rfl)
theorem dX6_drink_35 : decode cX6_drink 35 = .ok (.getfield 31, 3) := dk_180 0 31 (dk_at dksX6_drink_1 13 rfl rfl)
theorem dX6_drink_38 : decode cX6_drink 38 = .ok (.iload_n 2, 1) := dk_28 (dk_at dksX6_drink_1 16 rfl rfl)
theorem dX6_drink_39 : decode cX6_drink 39 = .ok (.iaload, 1) := dk_46 (dk_at dksX6_drink_1 17 rfl rfl)
theorem dX6_drink_40 : decode cX6_drink 40 = .ok (.ifCond .eq 11, 3) := dk_153 0 11 (dk_at dksX6_drink_1 18 rfl rfl)
theorem dX6_drink_43 : decode cX6_drink 43 = .ok (.aload_n 0, 1) := dk_42 (dk_at dksX6_drink_1 21 rfl rfl)
theorem dX6_drink_44 : decode cX6_drink 44 = .ok (.getfield 88, 3) := dk_180 0 88 (dk_at dksX6_drink_2 0 rfl rfl)
theorem dX6_drink_47 : decode cX6_drink 47 = .ok (.iconst 1, 1) := dk_4 (dk_at dksX6_drink_2 3 rfl rfl)
theorem dX6_drink_48 : decode cX6_drink 48 = .ok (.if_icmp .ne 4, 3) := dk_160 0 4 (dk_at dksX6_drink_2 4 rfl rfl)
theorem dX6_drink_51 : decode cX6_drink 51 = .ok (.return_, 1) := dk_177 (dk_at dksX6_drink_2 7 rfl rfl)
theorem dX6_drink_52 : decode cX6_drink 52 = .ok (.aload_n 0, 1) := dk_42 (dk_at dksX6_drink_2 8 rfl rfl)
theorem dX6_drink_53 : decode cX6_drink 53 = .ok (.getfield 3, 3) := dk_180 0 3 (dk_at dksX6_drink_2 9 rfl rfl)
theorem dX6_drink_56 : decode cX6_drink 56 = .ok (.getfield 139, 3) := dk_180 0 139 (dk_at dksX6_drink_2 12 rfl rfl)
theorem dX6_drink_59 : decode cX6_drink 59 = .ok (.aload_n 0, 1) := dk_42 (dk_at dksX6_drink_2 15 rfl rfl)
theorem dX6_drink_60 : decode cX6_drink 60 = .ok (.iload_n 1, 1) := dk_27 (dk_at dksX6_drink_2 16 rfl rfl)
theorem dX6_drink_61 : decode cX6_drink 61 = .ok (.invokevirtual 149, 3) := dk_182 0 149 (dk_at dksX6_drink_2 17 rfl rfl)
theorem dX6_drink_64 : decode cX6_drink 64 = .ok (.aload_n 0, 1) := dk_42 (dk_at dksX6_drink_2 20 rfl rfl)
theorem dX6_drink_65 : decode cX6_drink 65 = .ok (.getfield 19, 3) := dk_180 0 19 (dk_at dksX6_drink_2 21 rfl rfl)
theorem dX6_drink_68 : decode cX6_drink 68 = .ok (.iload_n 1, 1) := dk_27 (dk_at dksX6_drink_3 0 rfl rfl)
theorem dX6_drink_69 : decode cX6_drink 69 = .ok (.iaload, 1) := dk_46 (dk_at dksX6_drink_3 1 rfl rfl)
theorem dX6_drink_70 : decode cX6_drink 70 = .ok (.aload_n 0, 1) := dk_42 (dk_at dksX6_drink_3 2 rfl rfl)
theorem dX6_drink_71 : decode cX6_drink 71 = .ok (.getfield 31, 3) := dk_180 0 31 (dk_at dksX6_drink_3 3 rfl rfl)
theorem dX6_drink_74 : decode cX6_drink 74 = .ok (.iload_n 2, 1) := dk_28 (dk_at dksX6_drink_3 6 rfl rfl)
theorem dX6_drink_75 : decode cX6_drink 75 = .ok (.iaload, 1) := dk_46 (dk_at dksX6_drink_3 7 rfl rfl)
theorem dX6_drink_76 : decode cX6_drink 76 = .ok (.invokestatic 132, 3) := dk_184 0 132 (dk_at dksX6_drink_3 8 rfl rfl)
theorem dX6_drink_79 : decode cX6_drink 79 = .ok (.invokestatic 132, 3) := dk_184 0 132 (dk_at dksX6_drink_3 11 rfl rfl)
theorem dX6_drink_82 : decode cX6_drink 82 = .ok (.istore_n 3, 1) := dk_62 (dk_at dksX6_drink_3 14 rfl rfl)
theorem dX6_drink_83 : decode cX6_drink 83 = .ok (.aload_n 0, 1) := dk_42 (dk_at dksX6_drink_3 15 rfl rfl)
theorem dX6_drink_84 : decode cX6_drink 84 = .ok (.getfield 19, 3) := dk_180 0 19 (dk_at dksX6_drink_3 16 rfl rfl)
theorem dX6_drink_87 : decode cX6_drink 87 = .ok (.iload_n 1, 1) := dk_27 (dk_at dksX6_drink_3 19 rfl rfl)
theorem dX6_drink_88 : decode cX6_drink 88 = .ok (.dup2, 1) := dk_92 (dk_at dksX6_drink_3 20 rfl rfl)
theorem dX6_drink_89 : decode cX6_drink 89 = .ok (.iaload, 1) := dk_46 (dk_at dksX6_drink_3 21 rfl rfl)
theorem dX6_drink_90 : decode cX6_drink 90 = .ok (.iload_n 3, 1) := dk_29 (dk_at dksX6_drink_3 22 rfl rfl)
theorem dX6_drink_91 : decode cX6_drink 91 = .ok (.isub, 1) := dk_100 (dk_at dksX6_drink_3 23 rfl rfl)
theorem dX6_drink_92 : decode cX6_drink 92 = .ok (.iastore, 1) := dk_79 (dk_at dksX6_drink_4 0 rfl rfl)
theorem dX6_drink_93 : decode cX6_drink 93 = .ok (.aload_n 0, 1) := dk_42 (dk_at dksX6_drink_4 1 rfl rfl)
theorem dX6_drink_94 : decode cX6_drink 94 = .ok (.getfield 31, 3) := dk_180 0 31 (dk_at dksX6_drink_4 2 rfl rfl)
theorem dX6_drink_97 : decode cX6_drink 97 = .ok (.iload_n 2, 1) := dk_28 (dk_at dksX6_drink_4 5 rfl rfl)
theorem dX6_drink_98 : decode cX6_drink 98 = .ok (.dup2, 1) := dk_92 (dk_at dksX6_drink_4 6 rfl rfl)
theorem dX6_drink_99 : decode cX6_drink 99 = .ok (.iaload, 1) := dk_46 (dk_at dksX6_drink_4 7 rfl rfl)
theorem dX6_drink_100 : decode cX6_drink 100 = .ok (.iload_n 3, 1) := dk_29 (dk_at dksX6_drink_4 8 rfl rfl)
theorem dX6_drink_101 : decode cX6_drink 101 = .ok (.isub, 1) := dk_100 (dk_at dksX6_drink_4 9 rfl rfl)
theorem dX6_drink_102 : decode cX6_drink 102 = .ok (.iastore, 1) := dk_79 (dk_at dksX6_drink_4 10 rfl rfl)
theorem dX6_drink_103 : decode cX6_drink 103 = .ok (.aload_n 0, 1) := dk_42 (dk_at dksX6_drink_4 11 rfl rfl)
theorem dX6_drink_104 : decode cX6_drink 104 = .ok (.getfield 28, 3) := dk_180 0 28 (dk_at dksX6_drink_4 12 rfl rfl)
theorem dX6_drink_107 : decode cX6_drink 107 = .ok (.iload_n 1, 1) := dk_27 (dk_at dksX6_drink_4 15 rfl rfl)
theorem dX6_drink_108 : decode cX6_drink 108 = .ok (.iload_n 3, 1) := dk_29 (dk_at dksX6_drink_4 16 rfl rfl)
theorem dX6_drink_109 : decode cX6_drink 109 = .ok (.iastore, 1) := dk_79 (dk_at dksX6_drink_4 17 rfl rfl)
theorem dX6_drink_110 : decode cX6_drink 110 = .ok (.aload_n 0, 1) := dk_42 (dk_at dksX6_drink_4 18 rfl rfl)
theorem dX6_drink_111 : decode cX6_drink 111 = .ok (.dup, 1) := dk_89 (dk_at dksX6_drink_4 19 rfl rfl)
theorem dX6_drink_112 : decode cX6_drink 112 = .ok (.getfield 73, 3) := dk_180 0 73 (dk_at dksX6_drink_4 20 rfl rfl)
theorem dX6_drink_115 : decode cX6_drink 115 = .ok (.iload_n 3, 1) := dk_29 (dk_at dksX6_drink_4 23 rfl rfl)
theorem dX6_drink_116 : decode cX6_drink 116 = .ok (.iadd, 1) := dk_96 (dk_at dksX6_drink_5 0 rfl rfl)
theorem dX6_drink_117 : decode cX6_drink 117 = .ok (.putfield 73, 3) := dk_181 0 73 (dk_at dksX6_drink_5 1 rfl rfl)
theorem dX6_drink_120 : decode cX6_drink 120 = .ok (.return_, 1) := dk_177 (dk_at dksX6_drink_5 4 rfl rfl)
abbrev cX6_meet : ByteArray := prog_17_method_11_code
def yX6_meet : MethodName := ⟨RX6, "meet", "(II)V"⟩
def dkwX6_meet_8 : List UInt8 := [42, 180, 0, 25, 28, 46, 21, 5, 96, 184, 0, 132, 79, 177]
abbrev dktX6_meet_8 : List UInt8 := dkwX6_meet_8 ++ []
def dkwX6_meet_7 : List UInt8 := [17, 39, 15, 42, 180, 0, 25, 27, 46, 21, 4, 96, 184, 0, 132, 79, 42, 180, 0, 25, 28, 17, 39, 15]
abbrev dktX6_meet_7 : List UInt8 := dkwX6_meet_7 ++ dktX6_meet_8
def dkwX6_meet_6 : List UInt8 := [182, 0, 155, 54, 4, 42, 180, 0, 3, 180, 0, 139, 42, 28, 182, 0, 155, 54, 5, 42, 180, 0, 25, 27]
abbrev dktX6_meet_6 : List UInt8 := dkwX6_meet_6 ++ dktX6_meet_7
def dkwX6_meet_5 : List UInt8 := [96, 181, 0, 67, 42, 89, 180, 0, 94, 29, 128, 181, 0, 94, 42, 180, 0, 3, 180, 0, 139, 42, 27]
abbrev dktX6_meet_5 : List UInt8 := dkwX6_meet_5 ++ dktX6_meet_6
def dkwX6_meet_4 : List UInt8 := [42, 180, 0, 152, 2, 160, 0, 13, 42, 42, 180, 0, 15, 27, 46, 181, 0, 152, 42, 89, 180, 0, 67, 4]
abbrev dktX6_meet_4 : List UInt8 := dkwX6_meet_4 ++ dktX6_meet_5
def dkwX6_meet_3 : List UInt8 := [158, 0, 24, 42, 89, 180, 0, 70, 4, 96, 181, 0, 70, 42, 89, 180, 0, 91, 29, 128, 181, 0, 91, 177]
abbrev dktX6_meet_3 : List UInt8 := dkwX6_meet_3 ++ dktX6_meet_4
def dkwX6_meet_2 : List UInt8 := [182, 0, 38, 180, 0, 123, 96, 120, 128, 62, 42, 180, 0, 28, 27, 46, 42, 180, 0, 28, 28, 46, 96]
abbrev dktX6_meet_2 : List UInt8 := dkwX6_meet_2 ++ dktX6_meet_3
def dkwX6_meet_1 : List UInt8 := [180, 0, 123, 96, 120, 4, 7, 42, 180, 0, 3, 28, 182, 0, 38, 180, 0, 123, 104, 42, 180, 0, 3, 27]
abbrev dktX6_meet_1 : List UInt8 := dkwX6_meet_1 ++ dktX6_meet_2
def dkwX6_meet_0 : List UInt8 := [4, 7, 42, 180, 0, 3, 27, 182, 0, 38, 180, 0, 123, 104, 42, 180, 0, 3, 28, 182, 0, 38]
abbrev dktX6_meet_0 : List UInt8 := dkwX6_meet_0 ++ dktX6_meet_1
theorem dksX6_meet_0 : cX6_meet.data.toList.drop 0 = dktX6_meet_0 := by decide +kernel
theorem dksX6_meet_1 : cX6_meet.data.toList.drop 22 = dktX6_meet_1 := dk_seg dksX6_meet_0 22 rfl rfl
theorem dksX6_meet_2 : cX6_meet.data.toList.drop 46 = dktX6_meet_2 := dk_seg dksX6_meet_1 24 rfl rfl
theorem dksX6_meet_3 : cX6_meet.data.toList.drop 69 = dktX6_meet_3 := dk_seg dksX6_meet_2 23 rfl rfl
theorem dksX6_meet_4 : cX6_meet.data.toList.drop 93 = dktX6_meet_4 := dk_seg dksX6_meet_3 24 rfl rfl
theorem dksX6_meet_5 : cX6_meet.data.toList.drop 117 = dktX6_meet_5 := dk_seg dksX6_meet_4 24 rfl rfl
theorem dksX6_meet_6 : cX6_meet.data.toList.drop 140 = dktX6_meet_6 := dk_seg dksX6_meet_5 23 rfl rfl
theorem dksX6_meet_7 : cX6_meet.data.toList.drop 164 = dktX6_meet_7 := dk_seg dksX6_meet_6 24 rfl rfl
theorem dksX6_meet_8 : cX6_meet.data.toList.drop 188 = dktX6_meet_8 := dk_seg dksX6_meet_7 24 rfl rfl
theorem dX6_meet_0 : decode cX6_meet 0 = .ok (.iconst 1, 1) := dk_4 (dk_at dksX6_meet_0 0 rfl rfl)
theorem dX6_meet_1 : decode cX6_meet 1 = .ok (.iconst 4, 1) := dk_7 (dk_at dksX6_meet_0 1 rfl rfl)
theorem dX6_meet_2 : decode cX6_meet 2 = .ok (.aload_n 0, 1) := dk_42 (dk_at dksX6_meet_0 2 rfl rfl)
theorem dX6_meet_3 : decode cX6_meet 3 = .ok (.getfield 3, 3) := dk_180 0 3 (dk_at dksX6_meet_0 3 rfl rfl)
theorem dX6_meet_6 : decode cX6_meet 6 = .ok (.iload_n 1, 1) := dk_27 (dk_at dksX6_meet_0 6 rfl rfl)
theorem dX6_meet_7 : decode cX6_meet 7 = .ok (.invokevirtual 38, 3) := dk_182 0 38 (dk_at dksX6_meet_0 7 rfl rfl)
theorem dX6_meet_10 : decode cX6_meet 10 = .ok (.getfield 123, 3) := dk_180 0 123 (dk_at dksX6_meet_0 10 rfl rfl)
theorem dX6_meet_13 : decode cX6_meet 13 = .ok (.imul, 1) := dk_104 (dk_at dksX6_meet_0 13 rfl rfl)
theorem dX6_meet_14 : decode cX6_meet 14 = .ok (.aload_n 0, 1) := dk_42 (dk_at dksX6_meet_0 14 rfl rfl)
theorem dX6_meet_15 : decode cX6_meet 15 = .ok (.getfield 3, 3) := dk_180 0 3 (dk_at dksX6_meet_0 15 rfl rfl)
theorem dX6_meet_18 : decode cX6_meet 18 = .ok (.iload_n 2, 1) := dk_28 (dk_at dksX6_meet_0 18 rfl rfl)
theorem dX6_meet_19 : decode cX6_meet 19 = .ok (.invokevirtual 38, 3) := dk_182 0 38 (dk_at dksX6_meet_0 19 rfl rfl)
theorem dX6_meet_22 : decode cX6_meet 22 = .ok (.getfield 123, 3) := dk_180 0 123 (dk_at dksX6_meet_1 0 rfl rfl)
theorem dX6_meet_25 : decode cX6_meet 25 = .ok (.iadd, 1) := dk_96 (dk_at dksX6_meet_1 3 rfl rfl)
theorem dX6_meet_26 : decode cX6_meet 26 = .ok (.ishl, 1) := dk_120 (dk_at dksX6_meet_1 4 rfl rfl)
theorem dX6_meet_27 : decode cX6_meet 27 = .ok (.iconst 1, 1) := dk_4 (dk_at dksX6_meet_1 5 rfl rfl)
theorem dX6_meet_28 : decode cX6_meet 28 = .ok (.iconst 4, 1) := dk_7 (dk_at dksX6_meet_1 6 rfl rfl)
theorem dX6_meet_29 : decode cX6_meet 29 = .ok (.aload_n 0, 1) := dk_42 (dk_at dksX6_meet_1 7 rfl rfl)
theorem dX6_meet_30 : decode cX6_meet 30 = .ok (.getfield 3, 3) := dk_180 0 3 (dk_at dksX6_meet_1 8 rfl rfl)
theorem dX6_meet_33 : decode cX6_meet 33 = .ok (.iload_n 2, 1) := dk_28 (dk_at dksX6_meet_1 11 rfl rfl)
theorem dX6_meet_34 : decode cX6_meet 34 = .ok (.invokevirtual 38, 3) := dk_182 0 38 (dk_at dksX6_meet_1 12 rfl rfl)
theorem dX6_meet_37 : decode cX6_meet 37 = .ok (.getfield 123, 3) := dk_180 0 123 (dk_at dksX6_meet_1 15 rfl rfl)
theorem dX6_meet_40 : decode cX6_meet 40 = .ok (.imul, 1) := dk_104 (dk_at dksX6_meet_1 18 rfl rfl)
theorem dX6_meet_41 : decode cX6_meet 41 = .ok (.aload_n 0, 1) := dk_42 (dk_at dksX6_meet_1 19 rfl rfl)
theorem dX6_meet_42 : decode cX6_meet 42 = .ok (.getfield 3, 3) := dk_180 0 3 (dk_at dksX6_meet_1 20 rfl rfl)
theorem dX6_meet_45 : decode cX6_meet 45 = .ok (.iload_n 1, 1) := dk_27 (dk_at dksX6_meet_1 23 rfl rfl)
theorem dX6_meet_46 : decode cX6_meet 46 = .ok (.invokevirtual 38, 3) := dk_182 0 38 (dk_at dksX6_meet_2 0 rfl rfl)
theorem dX6_meet_49 : decode cX6_meet 49 = .ok (.getfield 123, 3) := dk_180 0 123 (dk_at dksX6_meet_2 3 rfl rfl)
theorem dX6_meet_52 : decode cX6_meet 52 = .ok (.iadd, 1) := dk_96 (dk_at dksX6_meet_2 6 rfl rfl)
theorem dX6_meet_53 : decode cX6_meet 53 = .ok (.ishl, 1) := dk_120 (dk_at dksX6_meet_2 7 rfl rfl)
theorem dX6_meet_54 : decode cX6_meet 54 = .ok (.ior, 1) := dk_128 (dk_at dksX6_meet_2 8 rfl rfl)
theorem dX6_meet_55 : decode cX6_meet 55 = .ok (.istore_n 3, 1) := dk_62 (dk_at dksX6_meet_2 9 rfl rfl)
theorem dX6_meet_56 : decode cX6_meet 56 = .ok (.aload_n 0, 1) := dk_42 (dk_at dksX6_meet_2 10 rfl rfl)
theorem dX6_meet_57 : decode cX6_meet 57 = .ok (.getfield 28, 3) := dk_180 0 28 (dk_at dksX6_meet_2 11 rfl rfl)
theorem dX6_meet_60 : decode cX6_meet 60 = .ok (.iload_n 1, 1) := dk_27 (dk_at dksX6_meet_2 14 rfl rfl)
theorem dX6_meet_61 : decode cX6_meet 61 = .ok (.iaload, 1) := dk_46 (dk_at dksX6_meet_2 15 rfl rfl)
theorem dX6_meet_62 : decode cX6_meet 62 = .ok (.aload_n 0, 1) := dk_42 (dk_at dksX6_meet_2 16 rfl rfl)
theorem dX6_meet_63 : decode cX6_meet 63 = .ok (.getfield 28, 3) := dk_180 0 28 (dk_at dksX6_meet_2 17 rfl rfl)
theorem dX6_meet_66 : decode cX6_meet 66 = .ok (.iload_n 2, 1) := dk_28 (dk_at dksX6_meet_2 20 rfl rfl)
theorem dX6_meet_67 : decode cX6_meet 67 = .ok (.iaload, 1) := dk_46 (dk_at dksX6_meet_2 21 rfl rfl)
theorem dX6_meet_68 : decode cX6_meet 68 = .ok (.iadd, 1) := dk_96 (dk_at dksX6_meet_2 22 rfl rfl)
theorem dX6_meet_69 : decode cX6_meet 69 = .ok (.ifCond .le 24, 3) := dk_158 0 24 (dk_at dksX6_meet_3 0 rfl rfl)
theorem dX6_meet_72 : decode cX6_meet 72 = .ok (.aload_n 0, 1) := dk_42 (dk_at dksX6_meet_3 3 rfl rfl)
theorem dX6_meet_73 : decode cX6_meet 73 = .ok (.dup, 1) := dk_89 (dk_at dksX6_meet_3 4 rfl rfl)
theorem dX6_meet_74 : decode cX6_meet 74 = .ok (.getfield 70, 3) := dk_180 0 70 (dk_at dksX6_meet_3 5 rfl rfl)
theorem dX6_meet_77 : decode cX6_meet 77 = .ok (.iconst 1, 1) := dk_4 (dk_at dksX6_meet_3 8 rfl rfl)
theorem dX6_meet_78 : decode cX6_meet 78 = .ok (.iadd, 1) := dk_96 (dk_at dksX6_meet_3 9 rfl rfl)
theorem dX6_meet_79 : decode cX6_meet 79 = .ok (.putfield 70, 3) := dk_181 0 70 (dk_at dksX6_meet_3 10 rfl rfl)
theorem dX6_meet_82 : decode cX6_meet 82 = .ok (.aload_n 0, 1) := dk_42 (dk_at dksX6_meet_3 13 rfl rfl)
theorem dX6_meet_83 : decode cX6_meet 83 = .ok (.dup, 1) := dk_89 (dk_at dksX6_meet_3 14 rfl rfl)
theorem dX6_meet_84 : decode cX6_meet 84 = .ok (.getfield 91, 3) := dk_180 0 91 (dk_at dksX6_meet_3 15 rfl rfl)
theorem dX6_meet_87 : decode cX6_meet 87 = .ok (.iload_n 3, 1) := dk_29 (dk_at dksX6_meet_3 18 rfl rfl)
theorem dX6_meet_88 : decode cX6_meet 88 = .ok (.ior, 1) := dk_128 (dk_at dksX6_meet_3 19 rfl rfl)
theorem dX6_meet_89 : decode cX6_meet 89 = .ok (.putfield 91, 3) := dk_181 0 91 (dk_at dksX6_meet_3 20 rfl rfl)
theorem dX6_meet_92 : decode cX6_meet 92 = .ok (.return_, 1) := dk_177 (dk_at dksX6_meet_3 23 rfl rfl)
theorem dX6_meet_93 : decode cX6_meet 93 = .ok (.aload_n 0, 1) := dk_42 (dk_at dksX6_meet_4 0 rfl rfl)
theorem dX6_meet_94 : decode cX6_meet 94 = .ok (.getfield 152, 3) := dk_180 0 152 (dk_at dksX6_meet_4 1 rfl rfl)
theorem dX6_meet_97 : decode cX6_meet 97 = .ok (.iconst (-1), 1) := dk_2 (dk_at dksX6_meet_4 4 rfl rfl)
theorem dX6_meet_98 : decode cX6_meet 98 = .ok (.if_icmp .ne 13, 3) := dk_160 0 13 (dk_at dksX6_meet_4 5 rfl rfl)
theorem dX6_meet_101 : decode cX6_meet 101 = .ok (.aload_n 0, 1) := dk_42 (dk_at dksX6_meet_4 8 rfl rfl)
theorem dX6_meet_102 : decode cX6_meet 102 = .ok (.aload_n 0, 1) := dk_42 (dk_at dksX6_meet_4 9 rfl rfl)
theorem dX6_meet_103 : decode cX6_meet 103 = .ok (.getfield 15, 3) := dk_180 0 15 (dk_at dksX6_meet_4 10 rfl rfl)
theorem dX6_meet_106 : decode cX6_meet 106 = .ok (.iload_n 1, 1) := dk_27 (dk_at dksX6_meet_4 13 rfl rfl)
theorem dX6_meet_107 : decode cX6_meet 107 = .ok (.iaload, 1) := dk_46 (dk_at dksX6_meet_4 14 rfl rfl)
theorem dX6_meet_108 : decode cX6_meet 108 = .ok (.putfield 152, 3) := dk_181 0 152 (dk_at dksX6_meet_4 15 rfl rfl)
theorem dX6_meet_111 : decode cX6_meet 111 = .ok (.aload_n 0, 1) := dk_42 (dk_at dksX6_meet_4 18 rfl rfl)
theorem dX6_meet_112 : decode cX6_meet 112 = .ok (.dup, 1) := dk_89 (dk_at dksX6_meet_4 19 rfl rfl)
theorem dX6_meet_113 : decode cX6_meet 113 = .ok (.getfield 67, 3) := dk_180 0 67 (dk_at dksX6_meet_4 20 rfl rfl)
theorem dX6_meet_116 : decode cX6_meet 116 = .ok (.iconst 1, 1) := dk_4 (dk_at dksX6_meet_4 23 rfl rfl)
theorem dX6_meet_117 : decode cX6_meet 117 = .ok (.iadd, 1) := dk_96 (dk_at dksX6_meet_5 0 rfl rfl)
theorem dX6_meet_118 : decode cX6_meet 118 = .ok (.putfield 67, 3) := dk_181 0 67 (dk_at dksX6_meet_5 1 rfl rfl)
theorem dX6_meet_121 : decode cX6_meet 121 = .ok (.aload_n 0, 1) := dk_42 (dk_at dksX6_meet_5 4 rfl rfl)
theorem dX6_meet_122 : decode cX6_meet 122 = .ok (.dup, 1) := dk_89 (dk_at dksX6_meet_5 5 rfl rfl)
theorem dX6_meet_123 : decode cX6_meet 123 = .ok (.getfield 94, 3) := dk_180 0 94 (dk_at dksX6_meet_5 6 rfl rfl)
theorem dX6_meet_126 : decode cX6_meet 126 = .ok (.iload_n 3, 1) := dk_29 (dk_at dksX6_meet_5 9 rfl rfl)
theorem dX6_meet_127 : decode cX6_meet 127 = .ok (.ior, 1) := dk_128 (dk_at dksX6_meet_5 10 rfl rfl)
theorem dX6_meet_128 : decode cX6_meet 128 = .ok (.putfield 94, 3) := dk_181 0 94 (dk_at dksX6_meet_5 11 rfl rfl)
theorem dX6_meet_131 : decode cX6_meet 131 = .ok (.aload_n 0, 1) := dk_42 (dk_at dksX6_meet_5 14 rfl rfl)
theorem dX6_meet_132 : decode cX6_meet 132 = .ok (.getfield 3, 3) := dk_180 0 3 (dk_at dksX6_meet_5 15 rfl rfl)
theorem dX6_meet_135 : decode cX6_meet 135 = .ok (.getfield 139, 3) := dk_180 0 139 (dk_at dksX6_meet_5 18 rfl rfl)
theorem dX6_meet_138 : decode cX6_meet 138 = .ok (.aload_n 0, 1) := dk_42 (dk_at dksX6_meet_5 21 rfl rfl)
theorem dX6_meet_139 : decode cX6_meet 139 = .ok (.iload_n 1, 1) := dk_27 (dk_at dksX6_meet_5 22 rfl rfl)
theorem dX6_meet_140 : decode cX6_meet 140 = .ok (.invokevirtual 155, 3) := dk_182 0 155 (dk_at dksX6_meet_6 0 rfl rfl)
theorem dX6_meet_143 : decode cX6_meet 143 = .ok (.istore 4, 2) := dk_54 4 (dk_at dksX6_meet_6 3 rfl rfl)
theorem dX6_meet_145 : decode cX6_meet 145 = .ok (.aload_n 0, 1) := dk_42 (dk_at dksX6_meet_6 5 rfl rfl)
theorem dX6_meet_146 : decode cX6_meet 146 = .ok (.getfield 3, 3) := dk_180 0 3 (dk_at dksX6_meet_6 6 rfl rfl)
theorem dX6_meet_149 : decode cX6_meet 149 = .ok (.getfield 139, 3) := dk_180 0 139 (dk_at dksX6_meet_6 9 rfl rfl)
theorem dX6_meet_152 : decode cX6_meet 152 = .ok (.aload_n 0, 1) := dk_42 (dk_at dksX6_meet_6 12 rfl rfl)
theorem dX6_meet_153 : decode cX6_meet 153 = .ok (.iload_n 2, 1) := dk_28 (dk_at dksX6_meet_6 13 rfl rfl)
theorem dX6_meet_154 : decode cX6_meet 154 = .ok (.invokevirtual 155, 3) := dk_182 0 155 (dk_at dksX6_meet_6 14 rfl rfl)
theorem dX6_meet_157 : decode cX6_meet 157 = .ok (.istore 5, 2) := dk_54 5 (dk_at dksX6_meet_6 17 rfl rfl)
theorem dX6_meet_159 : decode cX6_meet 159 = .ok (.aload_n 0, 1) := dk_42 (dk_at dksX6_meet_6 19 rfl rfl)
theorem dX6_meet_160 : decode cX6_meet 160 = .ok (.getfield 25, 3) := dk_180 0 25 (dk_at dksX6_meet_6 20 rfl rfl)
theorem dX6_meet_163 : decode cX6_meet 163 = .ok (.iload_n 1, 1) := dk_27 (dk_at dksX6_meet_6 23 rfl rfl)
theorem dX6_meet_164 : decode cX6_meet 164 = .ok (.sipush 9999, 3) := dk_17 39 15 (dk_at dksX6_meet_7 0 rfl rfl)
theorem dX6_meet_167 : decode cX6_meet 167 = .ok (.aload_n 0, 1) := dk_42 (dk_at dksX6_meet_7 3 rfl rfl)
theorem dX6_meet_168 : decode cX6_meet 168 = .ok (.getfield 25, 3) := dk_180 0 25 (dk_at dksX6_meet_7 4 rfl rfl)
theorem dX6_meet_171 : decode cX6_meet 171 = .ok (.iload_n 1, 1) := dk_27 (dk_at dksX6_meet_7 7 rfl rfl)
theorem dX6_meet_172 : decode cX6_meet 172 = .ok (.iaload, 1) := dk_46 (dk_at dksX6_meet_7 8 rfl rfl)
theorem dX6_meet_173 : decode cX6_meet 173 = .ok (.iload 4, 2) := dk_21 4 (dk_at dksX6_meet_7 9 rfl rfl)
theorem dX6_meet_175 : decode cX6_meet 175 = .ok (.iadd, 1) := dk_96 (dk_at dksX6_meet_7 11 rfl rfl)
theorem dX6_meet_176 : decode cX6_meet 176 = .ok (.invokestatic 132, 3) := dk_184 0 132 (dk_at dksX6_meet_7 12 rfl rfl)
theorem dX6_meet_179 : decode cX6_meet 179 = .ok (.iastore, 1) := dk_79 (dk_at dksX6_meet_7 15 rfl rfl)
theorem dX6_meet_180 : decode cX6_meet 180 = .ok (.aload_n 0, 1) := dk_42 (dk_at dksX6_meet_7 16 rfl rfl)
theorem dX6_meet_181 : decode cX6_meet 181 = .ok (.getfield 25, 3) := dk_180 0 25 (dk_at dksX6_meet_7 17 rfl rfl)
theorem dX6_meet_184 : decode cX6_meet 184 = .ok (.iload_n 2, 1) := dk_28 (dk_at dksX6_meet_7 20 rfl rfl)
theorem dX6_meet_185 : decode cX6_meet 185 = .ok (.sipush 9999, 3) := dk_17 39 15 (dk_at dksX6_meet_7 21 rfl rfl)
theorem dX6_meet_188 : decode cX6_meet 188 = .ok (.aload_n 0, 1) := dk_42 (dk_at dksX6_meet_8 0 rfl rfl)
theorem dX6_meet_189 : decode cX6_meet 189 = .ok (.getfield 25, 3) := dk_180 0 25 (dk_at dksX6_meet_8 1 rfl rfl)
theorem dX6_meet_192 : decode cX6_meet 192 = .ok (.iload_n 2, 1) := dk_28 (dk_at dksX6_meet_8 4 rfl rfl)
theorem dX6_meet_193 : decode cX6_meet 193 = .ok (.iaload, 1) := dk_46 (dk_at dksX6_meet_8 5 rfl rfl)
theorem dX6_meet_194 : decode cX6_meet 194 = .ok (.iload 5, 2) := dk_21 5 (dk_at dksX6_meet_8 6 rfl rfl)
theorem dX6_meet_196 : decode cX6_meet 196 = .ok (.iadd, 1) := dk_96 (dk_at dksX6_meet_8 8 rfl rfl)
theorem dX6_meet_197 : decode cX6_meet 197 = .ok (.invokestatic 132, 3) := dk_184 0 132 (dk_at dksX6_meet_8 9 rfl rfl)
theorem dX6_meet_200 : decode cX6_meet 200 = .ok (.iastore, 1) := dk_79 (dk_at dksX6_meet_8 12 rfl rfl)
theorem dX6_meet_201 : decode cX6_meet 201 = .ok (.return_, 1) := dk_177 (dk_at dksX6_meet_8 13 rfl rfl)
abbrev cX6_rains : ByteArray := prog_17_method_12_code
def yX6_rains : MethodName := ⟨RX6, "rains", "(Z)Z"⟩
def dkwX6_rains_3 : List UInt8 := [180, 0, 3, 180, 0, 76, 180, 0, 157, 16, 50, 161, 0, 7, 4, 167, 0, 4, 3, 172]
abbrev dktX6_rains_3 : List UInt8 := dkwX6_rains_3 ++ []
def dkwX6_rains_2 : List UInt8 := [42, 180, 0, 3, 180, 0, 76, 180, 0, 157, 162, 0, 7, 4, 167, 0, 27, 3, 167, 0, 23, 42]
abbrev dktX6_rains_2 : List UInt8 := dkwX6_rains_2 ++ dktX6_rains_3
def dkwX6_rains_1 : List UInt8 := [158, 0, 45, 42, 180, 0, 3, 180, 0, 76, 180, 0, 157, 16, 100, 162, 0, 30, 42, 16, 100, 182, 0, 160]
abbrev dktX6_rains_1 : List UInt8 := dkwX6_rains_1 ++ dktX6_rains_2
def dkwX6_rains_0 : List UInt8 := [42, 180, 0, 88, 154, 0, 5, 3, 172, 27, 153, 0, 58, 42, 180, 0, 3, 180, 0, 76, 180, 0, 157]
abbrev dktX6_rains_0 : List UInt8 := dkwX6_rains_0 ++ dktX6_rains_1
theorem dksX6_rains_0 : cX6_rains.data.toList.drop 0 = dktX6_rains_0 := by decide +kernel
theorem dksX6_rains_1 : cX6_rains.data.toList.drop 23 = dktX6_rains_1 := dk_seg dksX6_rains_0 23 rfl rfl
theorem dksX6_rains_2 : cX6_rains.data.toList.drop 47 = dktX6_rains_2 := dk_seg dksX6_rains_1 24 rfl rfl
theorem dksX6_rains_3 : cX6_rains.data.toList.drop 69 = dktX6_rains_3 := dk_seg dksX6_rains_2 22 rfl rfl
theorem dX6_rains_0 : decode cX6_rains 0 = .ok (.aload_n 0, 1) := dk_42 (dk_at dksX6_rains_0 0 rfl rfl)
theorem dX6_rains_1 : decode cX6_rains 1 = .ok (.getfield 88, 3) := dk_180 0 88 (dk_at dksX6_rains_0 1 rfl rfl)
theorem dX6_rains_4 : decode cX6_rains 4 = .ok (.ifCond .ne 5, 3) := dk_154 0 5 (dk_at dksX6_rains_0 4 rfl rfl)
theorem dX6_rains_7 : decode cX6_rains 7 = .ok (.iconst 0, 1) := dk_3 (dk_at dksX6_rains_0 7 rfl rfl)
theorem dX6_rains_8 : decode cX6_rains 8 = .ok (.ireturn, 1) := dk_172 (dk_at dksX6_rains_0 8 rfl rfl)
theorem dX6_rains_9 : decode cX6_rains 9 = .ok (.iload_n 1, 1) := dk_27 (dk_at dksX6_rains_0 9 rfl rfl)
theorem dX6_rains_10 : decode cX6_rains 10 = .ok (.ifCond .eq 58, 3) := dk_153 0 58 (dk_at dksX6_rains_0 10 rfl rfl)
theorem dX6_rains_13 : decode cX6_rains 13 = .ok (.aload_n 0, 1) := dk_42 (dk_at dksX6_rains_0 13 rfl rfl)
theorem dX6_rains_14 : decode cX6_rains 14 = .ok (.getfield 3, 3) := dk_180 0 3 (dk_at dksX6_rains_0 14 rfl rfl)
theorem dX6_rains_17 : decode cX6_rains 17 = .ok (.getfield 76, 3) := dk_180 0 76 (dk_at dksX6_rains_0 17 rfl rfl)
theorem dX6_rains_20 : decode cX6_rains 20 = .ok (.getfield 157, 3) := dk_180 0 157 (dk_at dksX6_rains_0 20 rfl rfl)
theorem dX6_rains_23 : decode cX6_rains 23 = .ok (.ifCond .le 45, 3) := dk_158 0 45 (dk_at dksX6_rains_1 0 rfl rfl)
theorem dX6_rains_26 : decode cX6_rains 26 = .ok (.aload_n 0, 1) := dk_42 (dk_at dksX6_rains_1 3 rfl rfl)
theorem dX6_rains_27 : decode cX6_rains 27 = .ok (.getfield 3, 3) := dk_180 0 3 (dk_at dksX6_rains_1 4 rfl rfl)
theorem dX6_rains_30 : decode cX6_rains 30 = .ok (.getfield 76, 3) := dk_180 0 76 (dk_at dksX6_rains_1 7 rfl rfl)
theorem dX6_rains_33 : decode cX6_rains 33 = .ok (.getfield 157, 3) := dk_180 0 157 (dk_at dksX6_rains_1 10 rfl rfl)
theorem dX6_rains_36 : decode cX6_rains 36 = .ok (.bipush 100, 2) := dk_16 100 (dk_at dksX6_rains_1 13 rfl rfl)
theorem dX6_rains_38 : decode cX6_rains 38 = .ok (.if_icmp .ge 30, 3) := dk_162 0 30 (dk_at dksX6_rains_1 15 rfl rfl)
theorem dX6_rains_41 : decode cX6_rains 41 = .ok (.aload_n 0, 1) := dk_42 (dk_at dksX6_rains_1 18 rfl rfl)
theorem dX6_rains_42 : decode cX6_rains 42 = .ok (.bipush 100, 2) := dk_16 100 (dk_at dksX6_rains_1 19 rfl rfl)
theorem dX6_rains_44 : decode cX6_rains 44 = .ok (.invokevirtual 160, 3) := dk_182 0 160 (dk_at dksX6_rains_1 21 rfl rfl)
theorem dX6_rains_47 : decode cX6_rains 47 = .ok (.aload_n 0, 1) := dk_42 (dk_at dksX6_rains_2 0 rfl rfl)
theorem dX6_rains_48 : decode cX6_rains 48 = .ok (.getfield 3, 3) := dk_180 0 3 (dk_at dksX6_rains_2 1 rfl rfl)
theorem dX6_rains_51 : decode cX6_rains 51 = .ok (.getfield 76, 3) := dk_180 0 76 (dk_at dksX6_rains_2 4 rfl rfl)
theorem dX6_rains_54 : decode cX6_rains 54 = .ok (.getfield 157, 3) := dk_180 0 157 (dk_at dksX6_rains_2 7 rfl rfl)
theorem dX6_rains_57 : decode cX6_rains 57 = .ok (.if_icmp .ge 7, 3) := dk_162 0 7 (dk_at dksX6_rains_2 10 rfl rfl)
theorem dX6_rains_60 : decode cX6_rains 60 = .ok (.iconst 1, 1) := dk_4 (dk_at dksX6_rains_2 13 rfl rfl)
theorem dX6_rains_61 : decode cX6_rains 61 = .ok (.goto 27, 3) := dk_167 0 27 (dk_at dksX6_rains_2 14 rfl rfl)
theorem dX6_rains_64 : decode cX6_rains 64 = .ok (.iconst 0, 1) := dk_3 (dk_at dksX6_rains_2 17 rfl rfl)
theorem dX6_rains_65 : decode cX6_rains 65 = .ok (.goto 23, 3) := dk_167 0 23 (dk_at dksX6_rains_2 18 rfl rfl)
theorem dX6_rains_68 : decode cX6_rains 68 = .ok (.aload_n 0, 1) := dk_42 (dk_at dksX6_rains_2 21 rfl rfl)
theorem dX6_rains_69 : decode cX6_rains 69 = .ok (.getfield 3, 3) := dk_180 0 3 (dk_at dksX6_rains_3 0 rfl rfl)
theorem dX6_rains_72 : decode cX6_rains 72 = .ok (.getfield 76, 3) := dk_180 0 76 (dk_at dksX6_rains_3 3 rfl rfl)
theorem dX6_rains_75 : decode cX6_rains 75 = .ok (.getfield 157, 3) := dk_180 0 157 (dk_at dksX6_rains_3 6 rfl rfl)
theorem dX6_rains_78 : decode cX6_rains 78 = .ok (.bipush 50, 2) := dk_16 50 (dk_at dksX6_rains_3 9 rfl rfl)
theorem dX6_rains_80 : decode cX6_rains 80 = .ok (.if_icmp .lt 7, 3) := dk_161 0 7 (dk_at dksX6_rains_3 11 rfl rfl)
theorem dX6_rains_83 : decode cX6_rains 83 = .ok (.iconst 1, 1) := dk_4 (dk_at dksX6_rains_3 14 rfl rfl)
theorem dX6_rains_84 : decode cX6_rains 84 = .ok (.goto 4, 3) := dk_167 0 4 (dk_at dksX6_rains_3 15 rfl rfl)
theorem dX6_rains_87 : decode cX6_rains 87 = .ok (.iconst 0, 1) := dk_3 (dk_at dksX6_rains_3 18 rfl rfl)
theorem dX6_rains_88 : decode cX6_rains 88 = .ok (.ireturn, 1) := dk_172 (dk_at dksX6_rains_3 19 rfl rfl)
abbrev cX6_draw : ByteArray := prog_17_method_4_code
def yX6_draw : MethodName := ⟨RX6, "draw", "(I)I"⟩
def dkwX6_draw_1 : List UInt8 := [122, 27, 112, 172]
abbrev dktX6_draw_1 : List UInt8 := dkwX6_draw_1 ++ []
def dkwX6_draw_0 : List UInt8 := [42, 42, 180, 0, 85, 18, 100, 104, 17, 48, 57, 96, 18, 103, 126, 181, 0, 85, 42, 180, 0, 85, 16, 16]
abbrev dktX6_draw_0 : List UInt8 := dkwX6_draw_0 ++ dktX6_draw_1
theorem dksX6_draw_0 : cX6_draw.data.toList.drop 0 = dktX6_draw_0 := by decide +kernel
theorem dksX6_draw_1 : cX6_draw.data.toList.drop 24 = dktX6_draw_1 := dk_seg dksX6_draw_0 24 rfl rfl
theorem dX6_draw_0 : decode cX6_draw 0 = .ok (.aload_n 0, 1) := dk_42 (dk_at dksX6_draw_0 0 rfl rfl)
theorem dX6_draw_1 : decode cX6_draw 1 = .ok (.aload_n 0, 1) := dk_42 (dk_at dksX6_draw_0 1 rfl rfl)
theorem dX6_draw_2 : decode cX6_draw 2 = .ok (.getfield 85, 3) := dk_180 0 85 (dk_at dksX6_draw_0 2 rfl rfl)
theorem dX6_draw_5 : decode cX6_draw 5 = .ok (.ldc 100, 2) := dk_18 100 (dk_at dksX6_draw_0 5 rfl rfl)
theorem dX6_draw_7 : decode cX6_draw 7 = .ok (.imul, 1) := dk_104 (dk_at dksX6_draw_0 7 rfl rfl)
theorem dX6_draw_8 : decode cX6_draw 8 = .ok (.sipush 12345, 3) := dk_17 48 57 (dk_at dksX6_draw_0 8 rfl rfl)
theorem dX6_draw_11 : decode cX6_draw 11 = .ok (.iadd, 1) := dk_96 (dk_at dksX6_draw_0 11 rfl rfl)
theorem dX6_draw_12 : decode cX6_draw 12 = .ok (.ldc 103, 2) := dk_18 103 (dk_at dksX6_draw_0 12 rfl rfl)
theorem dX6_draw_14 : decode cX6_draw 14 = .ok (.iand, 1) := dk_126 (dk_at dksX6_draw_0 14 rfl rfl)
theorem dX6_draw_15 : decode cX6_draw 15 = .ok (.putfield 85, 3) := dk_181 0 85 (dk_at dksX6_draw_0 15 rfl rfl)
theorem dX6_draw_18 : decode cX6_draw 18 = .ok (.aload_n 0, 1) := dk_42 (dk_at dksX6_draw_0 18 rfl rfl)
theorem dX6_draw_19 : decode cX6_draw 19 = .ok (.getfield 85, 3) := dk_180 0 85 (dk_at dksX6_draw_0 19 rfl rfl)
theorem dX6_draw_22 : decode cX6_draw 22 = .ok (.bipush 16, 2) := dk_16 16 (dk_at dksX6_draw_0 22 rfl rfl)
theorem dX6_draw_24 : decode cX6_draw 24 = .ok (.ishr, 1) := dk_122 (dk_at dksX6_draw_1 0 rfl rfl)
theorem dX6_draw_25 : decode cX6_draw 25 = .ok (.iload_n 1, 1) := dk_27 (dk_at dksX6_draw_1 1 rfl rfl)
theorem dX6_draw_26 : decode cX6_draw 26 = .ok (.irem, 1) := dk_112 (dk_at dksX6_draw_1 2 rfl rfl)
theorem dX6_draw_27 : decode cX6_draw 27 = .ok (.ireturn, 1) := dk_172 (dk_at dksX6_draw_1 3 rfl rfl)
abbrev cX6_goesOn : ByteArray := prog_17_method_14_code
def yX6_goesOn : MethodName := ⟨RX6, "goesOn", "(I)V"⟩
def dkwX6_goesOn_0 : List UInt8 := [3, 61, 28, 27, 162, 0, 14, 42, 3, 182, 0, 204, 132, 2, 1, 167, 255, 243, 177]
abbrev dktX6_goesOn_0 : List UInt8 := dkwX6_goesOn_0 ++ []
theorem dksX6_goesOn_0 : cX6_goesOn.data.toList.drop 0 = dktX6_goesOn_0 := by decide +kernel
theorem dX6_goesOn_0 : decode cX6_goesOn 0 = .ok (.iconst 0, 1) := dk_3 (dk_at dksX6_goesOn_0 0 rfl rfl)
theorem dX6_goesOn_1 : decode cX6_goesOn 1 = .ok (.istore_n 2, 1) := dk_61 (dk_at dksX6_goesOn_0 1 rfl rfl)
theorem dX6_goesOn_2 : decode cX6_goesOn 2 = .ok (.iload_n 2, 1) := dk_28 (dk_at dksX6_goesOn_0 2 rfl rfl)
theorem dX6_goesOn_3 : decode cX6_goesOn 3 = .ok (.iload_n 1, 1) := dk_27 (dk_at dksX6_goesOn_0 3 rfl rfl)
theorem dX6_goesOn_4 : decode cX6_goesOn 4 = .ok (.if_icmp .ge 14, 3) := dk_162 0 14 (dk_at dksX6_goesOn_0 4 rfl rfl)
theorem dX6_goesOn_7 : decode cX6_goesOn 7 = .ok (.aload_n 0, 1) := dk_42 (dk_at dksX6_goesOn_0 7 rfl rfl)
theorem dX6_goesOn_8 : decode cX6_goesOn 8 = .ok (.iconst 0, 1) := dk_3 (dk_at dksX6_goesOn_0 8 rfl rfl)
theorem dX6_goesOn_9 : decode cX6_goesOn 9 = .ok (.invokevirtual 204, 3) := dk_182 0 204 (dk_at dksX6_goesOn_0 9 rfl rfl)
theorem dX6_goesOn_12 : decode cX6_goesOn 12 = .ok (.iinc 2 1, 3) := dk_132 2 1 (dk_at dksX6_goesOn_0 12 rfl rfl)
theorem dX6_goesOn_15 : decode cX6_goesOn 15 = .ok (.goto (-13), 3) := dk_167 255 243 (dk_at dksX6_goesOn_0 15 rfl rfl)
theorem dX6_goesOn_18 : decode cX6_goesOn 18 = .ok (.return_, 1) := dk_177 (dk_at dksX6_goesOn_0 18 rfl rfl)
abbrev cX6_sum : ByteArray := prog_17_method_7_code
def yX6_sum : MethodName := ⟨RX6, "sum", "([II)I"⟩
def dkwX6_sum_1 : List UInt8 := [29, 172]
abbrev dktX6_sum_1 : List UInt8 := dkwX6_sum_1 ++ []
def dkwX6_sum_0 : List UInt8 := [3, 62, 3, 54, 4, 21, 4, 28, 162, 0, 16, 29, 43, 21, 4, 46, 96, 62, 132, 4, 1, 167, 255, 240]
abbrev dktX6_sum_0 : List UInt8 := dkwX6_sum_0 ++ dktX6_sum_1
theorem dksX6_sum_0 : cX6_sum.data.toList.drop 0 = dktX6_sum_0 := by decide +kernel
theorem dksX6_sum_1 : cX6_sum.data.toList.drop 24 = dktX6_sum_1 := dk_seg dksX6_sum_0 24 rfl rfl
theorem dX6_sum_0 : decode cX6_sum 0 = .ok (.iconst 0, 1) := dk_3 (dk_at dksX6_sum_0 0 rfl rfl)
theorem dX6_sum_1 : decode cX6_sum 1 = .ok (.istore_n 3, 1) := dk_62 (dk_at dksX6_sum_0 1 rfl rfl)
theorem dX6_sum_2 : decode cX6_sum 2 = .ok (.iconst 0, 1) := dk_3 (dk_at dksX6_sum_0 2 rfl rfl)
theorem dX6_sum_3 : decode cX6_sum 3 = .ok (.istore 4, 2) := dk_54 4 (dk_at dksX6_sum_0 3 rfl rfl)
theorem dX6_sum_5 : decode cX6_sum 5 = .ok (.iload 4, 2) := dk_21 4 (dk_at dksX6_sum_0 5 rfl rfl)
theorem dX6_sum_7 : decode cX6_sum 7 = .ok (.iload_n 2, 1) := dk_28 (dk_at dksX6_sum_0 7 rfl rfl)
theorem dX6_sum_8 : decode cX6_sum 8 = .ok (.if_icmp .ge 16, 3) := dk_162 0 16 (dk_at dksX6_sum_0 8 rfl rfl)
theorem dX6_sum_11 : decode cX6_sum 11 = .ok (.iload_n 3, 1) := dk_29 (dk_at dksX6_sum_0 11 rfl rfl)
theorem dX6_sum_12 : decode cX6_sum 12 = .ok (.aload_n 1, 1) := dk_43 (dk_at dksX6_sum_0 12 rfl rfl)
theorem dX6_sum_13 : decode cX6_sum 13 = .ok (.iload 4, 2) := dk_21 4 (dk_at dksX6_sum_0 13 rfl rfl)
theorem dX6_sum_15 : decode cX6_sum 15 = .ok (.iaload, 1) := dk_46 (dk_at dksX6_sum_0 15 rfl rfl)
theorem dX6_sum_16 : decode cX6_sum 16 = .ok (.iadd, 1) := dk_96 (dk_at dksX6_sum_0 16 rfl rfl)
theorem dX6_sum_17 : decode cX6_sum 17 = .ok (.istore_n 3, 1) := dk_62 (dk_at dksX6_sum_0 17 rfl rfl)
theorem dX6_sum_18 : decode cX6_sum 18 = .ok (.iinc 4 1, 3) := dk_132 4 1 (dk_at dksX6_sum_0 18 rfl rfl)
theorem dX6_sum_21 : decode cX6_sum 21 = .ok (.goto (-16), 3) := dk_167 255 240 (dk_at dksX6_sum_0 21 rfl rfl)
theorem dX6_sum_24 : decode cX6_sum 24 = .ok (.iload_n 3, 1) := dk_29 (dk_at dksX6_sum_1 0 rfl rfl)
theorem dX6_sum_25 : decode cX6_sum 25 = .ok (.ireturn, 1) := dk_172 (dk_at dksX6_sum_1 1 rfl rfl)
theorem q131 : (Jvm.Cond.initialized "TroughTreaty$State") ∈ lw_all := lw_g (lw_at lw_m1 9 rfl) rfl
theorem q245 : (Jvm.Cond.fieldLinkNest "TroughTreaty$State" (107 : Nat) "TroughTreaty$Road" "troughs" "Ljava/util/ArrayList;" "TroughTreaty") ∈ lw_tbl := lw_at lw_m1 123 rfl
theorem q251 : (Jvm.Cond.fieldLinkNest "TroughTreaty$State" (163 : Nat) "TroughTreaty$Road" "laps" "Ljava/util/ArrayList;" "TroughTreaty") ∈ lw_tbl := lw_at lw_m1 129 rfl
theorem q260 : (Jvm.Cond.fieldLinkNest "TroughTreaty$State" (157 : Nat) "TroughTreaty$Road" "rain" "I" "TroughTreaty") ∈ lw_tbl := lw_at lw_m1 138 rfl
theorem q263 : (Jvm.Cond.fieldLinkNest "TroughTreaty$State" (80 : Nat) "TroughTreaty$Road" "seed" "I" "TroughTreaty") ∈ lw_tbl := lw_at lw_m1 141 rfl
theorem q306 : (Jvm.Cond.instantiable "TroughTreaty$State" (18 : Nat)) ∈ lw_all := lw_g (lw_at lw_m1 184 rfl) rfl
theorem q308 : (Jvm.Cond.instanceMethod ({ cls := "TroughTreaty$State", name := "<init>", desc := "(LTroughTreaty;)V" } : Jvm.MethodName)) ∈ lw_all := lw_g (lw_at lw_m1 186 rfl) rfl
theorem q309 : (Jvm.Cond.code ({ cls := "TroughTreaty$State", name := "<init>", desc := "(LTroughTreaty;)V" } : Jvm.MethodName) prog_17_method_1_code (2 : Nat) (Option.none : Option Jvm.ClassFile.FieldType)) ∈ lw_all := lw_g (lw_at lw_m1 187 rfl) rfl
theorem q310 : (Jvm.Cond.methodLink "TroughTreaty$State" (9 : Nat) ({ cls := "java/lang/Object", name := "<init>", desc := "()V" } : Jvm.MethodName)) ∈ lw_all := lw_g (lw_at lw_m1 188 rfl) rfl
theorem q311 : (Jvm.Cond.fieldLink "TroughTreaty$State" (15 : Nat) "TroughTreaty$State" "at" "[I") ∈ lw_all := lw_g (lw_at lw_m1 189 rfl) rfl
theorem q313 : (Jvm.Cond.fieldLink "TroughTreaty$State" (19 : Nat) "TroughTreaty$State" "thirst" "[I") ∈ lw_all := lw_g (lw_at lw_m1 191 rfl) rfl
theorem q315 : (Jvm.Cond.fieldLink "TroughTreaty$State" (22 : Nat) "TroughTreaty$State" "goal" "[I") ∈ lw_all := lw_g (lw_at lw_m1 193 rfl) rfl
theorem q317 : (Jvm.Cond.fieldLink "TroughTreaty$State" (25 : Nat) "TroughTreaty$State" "hurt" "[I") ∈ lw_all := lw_g (lw_at lw_m1 195 rfl) rfl
theorem q319 : (Jvm.Cond.fieldLink "TroughTreaty$State" (28 : Nat) "TroughTreaty$State" "drank" "[I") ∈ lw_all := lw_g (lw_at lw_m1 197 rfl) rfl
theorem q321 : (Jvm.Cond.fieldLink "TroughTreaty$State" (31 : Nat) "TroughTreaty$State" "water" "[I") ∈ lw_all := lw_g (lw_at lw_m1 199 rfl) rfl
theorem q324 : (Jvm.Cond.fieldLink "TroughTreaty$State" (61 : Nat) "TroughTreaty$State" "hour" "I") ∈ lw_all := lw_g (lw_at lw_m1 202 rfl) rfl
theorem q326 : (Jvm.Cond.fieldLink "TroughTreaty$State" (64 : Nat) "TroughTreaty$State" "on" "I") ∈ lw_all := lw_g (lw_at lw_m1 204 rfl) rfl
theorem q328 : (Jvm.Cond.fieldLink "TroughTreaty$State" (67 : Nat) "TroughTreaty$State" "fights" "I") ∈ lw_all := lw_g (lw_at lw_m1 206 rfl) rfl
theorem q330 : (Jvm.Cond.fieldLink "TroughTreaty$State" (70 : Nat) "TroughTreaty$State" "talks" "I") ∈ lw_all := lw_g (lw_at lw_m1 208 rfl) rfl
theorem q332 : (Jvm.Cond.fieldLink "TroughTreaty$State" (73 : Nat) "TroughTreaty$State" "drunk" "I") ∈ lw_all := lw_g (lw_at lw_m1 210 rfl) rfl
theorem q334 : (Jvm.Cond.fieldLink "TroughTreaty$State" (85 : Nat) "TroughTreaty$State" "number" "I") ∈ lw_all := lw_g (lw_at lw_m1 212 rfl) rfl
theorem q336 : (Jvm.Cond.fieldLink "TroughTreaty$State" (88 : Nat) "TroughTreaty$State" "what" "I") ∈ lw_all := lw_g (lw_at lw_m1 214 rfl) rfl
theorem q338 : (Jvm.Cond.fieldLink "TroughTreaty$State" (97 : Nat) "TroughTreaty$State" "which" "I") ∈ lw_all := lw_g (lw_at lw_m1 216 rfl) rfl
theorem q340 : (Jvm.Cond.fieldLink "TroughTreaty$State" (152 : Nat) "TroughTreaty$State" "fightPlace" "I") ∈ lw_all := lw_g (lw_at lw_m1 218 rfl) rfl
theorem q342 : (Jvm.Cond.fieldLink "TroughTreaty$State" (91 : Nat) "TroughTreaty$State" "talked" "I") ∈ lw_all := lw_g (lw_at lw_m1 220 rfl) rfl
theorem q344 : (Jvm.Cond.fieldLink "TroughTreaty$State" (94 : Nat) "TroughTreaty$State" "fought" "I") ∈ lw_all := lw_g (lw_at lw_m1 222 rfl) rfl
theorem q346 : (Jvm.Cond.fieldLink "TroughTreaty$State" (3 : Nat) "TroughTreaty$State" "this$0" "LTroughTreaty;") ∈ lw_all := lw_g (lw_at lw_m1 224 rfl) rfl
theorem q347 : (Jvm.Cond.laysFinal "TroughTreaty$State" "TroughTreaty$State" "at" "[I") ∈ lw_all := lw_g (lw_at lw_m1 225 rfl) rfl
theorem q348 : (Jvm.Cond.soleField "TroughTreaty$State" "at") ∈ lw_all := lw_g (lw_at lw_m1 226 rfl) rfl
theorem q349 : (Jvm.Cond.laysFinal "TroughTreaty$State" "TroughTreaty$State" "thirst" "[I") ∈ lw_all := lw_g (lw_at lw_m1 227 rfl) rfl
theorem q350 : (Jvm.Cond.soleField "TroughTreaty$State" "thirst") ∈ lw_all := lw_g (lw_at lw_m1 228 rfl) rfl
theorem q351 : (Jvm.Cond.laysFinal "TroughTreaty$State" "TroughTreaty$State" "goal" "[I") ∈ lw_all := lw_g (lw_at lw_m1 229 rfl) rfl
theorem q352 : (Jvm.Cond.soleField "TroughTreaty$State" "goal") ∈ lw_all := lw_g (lw_at lw_m1 230 rfl) rfl
theorem q353 : (Jvm.Cond.laysFinal "TroughTreaty$State" "TroughTreaty$State" "hurt" "[I") ∈ lw_all := lw_g (lw_at lw_m1 231 rfl) rfl
theorem q354 : (Jvm.Cond.soleField "TroughTreaty$State" "hurt") ∈ lw_all := lw_g (lw_at lw_m1 232 rfl) rfl
theorem q355 : (Jvm.Cond.laysFinal "TroughTreaty$State" "TroughTreaty$State" "drank" "[I") ∈ lw_all := lw_g (lw_at lw_m1 233 rfl) rfl
theorem q356 : (Jvm.Cond.soleField "TroughTreaty$State" "drank") ∈ lw_all := lw_g (lw_at lw_m1 234 rfl) rfl
theorem q357 : (Jvm.Cond.laysFinal "TroughTreaty$State" "TroughTreaty$State" "water" "[I") ∈ lw_all := lw_g (lw_at lw_m1 235 rfl) rfl
theorem q358 : (Jvm.Cond.soleField "TroughTreaty$State" "water") ∈ lw_all := lw_g (lw_at lw_m1 236 rfl) rfl
theorem q359 : (Jvm.Cond.lays "TroughTreaty$State" "TroughTreaty$State" "hour" "I") ∈ lw_all := lw_g (lw_at lw_m1 237 rfl) rfl
theorem q360 : (Jvm.Cond.soleField "TroughTreaty$State" "hour") ∈ lw_all := lw_g (lw_at lw_m1 238 rfl) rfl
theorem q361 : (Jvm.Cond.lays "TroughTreaty$State" "TroughTreaty$State" "on" "I") ∈ lw_all := lw_g (lw_at lw_m1 239 rfl) rfl
theorem q362 : (Jvm.Cond.soleField "TroughTreaty$State" "on") ∈ lw_all := lw_g (lw_at lw_m2 0 rfl) rfl
theorem q363 : (Jvm.Cond.lays "TroughTreaty$State" "TroughTreaty$State" "fights" "I") ∈ lw_all := lw_g (lw_at lw_m2 1 rfl) rfl
theorem q364 : (Jvm.Cond.soleField "TroughTreaty$State" "fights") ∈ lw_all := lw_g (lw_at lw_m2 2 rfl) rfl
theorem q365 : (Jvm.Cond.lays "TroughTreaty$State" "TroughTreaty$State" "talks" "I") ∈ lw_all := lw_g (lw_at lw_m2 3 rfl) rfl
theorem q366 : (Jvm.Cond.soleField "TroughTreaty$State" "talks") ∈ lw_all := lw_g (lw_at lw_m2 4 rfl) rfl
theorem q367 : (Jvm.Cond.lays "TroughTreaty$State" "TroughTreaty$State" "drunk" "I") ∈ lw_all := lw_g (lw_at lw_m2 5 rfl) rfl
theorem q368 : (Jvm.Cond.soleField "TroughTreaty$State" "drunk") ∈ lw_all := lw_g (lw_at lw_m2 6 rfl) rfl
theorem q369 : (Jvm.Cond.lays "TroughTreaty$State" "TroughTreaty$State" "number" "I") ∈ lw_all := lw_g (lw_at lw_m2 7 rfl) rfl
theorem q370 : (Jvm.Cond.soleField "TroughTreaty$State" "number") ∈ lw_all := lw_g (lw_at lw_m2 8 rfl) rfl
theorem q371 : (Jvm.Cond.lays "TroughTreaty$State" "TroughTreaty$State" "what" "I") ∈ lw_all := lw_g (lw_at lw_m2 9 rfl) rfl
theorem q372 : (Jvm.Cond.soleField "TroughTreaty$State" "what") ∈ lw_all := lw_g (lw_at lw_m2 10 rfl) rfl
theorem q373 : (Jvm.Cond.lays "TroughTreaty$State" "TroughTreaty$State" "which" "I") ∈ lw_all := lw_g (lw_at lw_m2 11 rfl) rfl
theorem q374 : (Jvm.Cond.soleField "TroughTreaty$State" "which") ∈ lw_all := lw_g (lw_at lw_m2 12 rfl) rfl
theorem q375 : (Jvm.Cond.lays "TroughTreaty$State" "TroughTreaty$State" "fightPlace" "I") ∈ lw_all := lw_g (lw_at lw_m2 13 rfl) rfl
theorem q376 : (Jvm.Cond.soleField "TroughTreaty$State" "fightPlace") ∈ lw_all := lw_g (lw_at lw_m2 14 rfl) rfl
theorem q377 : (Jvm.Cond.lays "TroughTreaty$State" "TroughTreaty$State" "talked" "I") ∈ lw_all := lw_g (lw_at lw_m2 15 rfl) rfl
theorem q378 : (Jvm.Cond.soleField "TroughTreaty$State" "talked") ∈ lw_all := lw_g (lw_at lw_m2 16 rfl) rfl
theorem q379 : (Jvm.Cond.lays "TroughTreaty$State" "TroughTreaty$State" "fought" "I") ∈ lw_all := lw_g (lw_at lw_m2 17 rfl) rfl
theorem q380 : (Jvm.Cond.soleField "TroughTreaty$State" "fought") ∈ lw_all := lw_g (lw_at lw_m2 18 rfl) rfl
theorem q381 : (Jvm.Cond.laysFinal "TroughTreaty$State" "TroughTreaty$State" "this$0" "LTroughTreaty;") ∈ lw_all := lw_g (lw_at lw_m2 19 rfl) rfl
theorem q382 : (Jvm.Cond.soleField "TroughTreaty$State" "this$0") ∈ lw_all := lw_g (lw_at lw_m2 20 rfl) rfl
theorem q383 : (Jvm.Cond.superclass "TroughTreaty$State" "java/lang/Object") ∈ lw_all := lw_g (lw_at lw_m2 21 rfl) rfl
theorem q389 : (Jvm.Cond.instanceMethod ({ cls := "TroughTreaty$State", name := "begin", desc := "()V" } : Jvm.MethodName)) ∈ lw_all := lw_g (lw_at lw_m2 27 rfl) rfl
theorem q390 : (Jvm.Cond.selects "TroughTreaty$State" ({ cls := "TroughTreaty$State", name := "begin", desc := "()V" } : Jvm.MethodName) ({ cls := "TroughTreaty$State", name := "begin", desc := "()V" } : Jvm.MethodName)) ∈ lw_all := lw_g (lw_at lw_m2 28 rfl) rfl
theorem q391 : (Jvm.Cond.code ({ cls := "TroughTreaty$State", name := "begin", desc := "()V" } : Jvm.MethodName) prog_17_method_2_code (2 : Nat) (Option.none : Option Jvm.ClassFile.FieldType)) ∈ lw_all := lw_g (lw_at lw_m2 29 rfl) rfl
theorem q392 : (Jvm.Cond.methodLinkNest "TroughTreaty$State" (34 : Nat) ({ cls := "TroughTreaty", name := "horses", desc := "()I" } : Jvm.MethodName) "TroughTreaty") ∈ lw_tbl := lw_at lw_m2 30 rfl
theorem q400 : (Jvm.Cond.methodLinkNest "TroughTreaty$State" (38 : Nat) ({ cls := "TroughTreaty", name := "horse", desc := "(I)LTroughTreaty$Horse;" } : Jvm.MethodName) "TroughTreaty") ∈ lw_tbl := lw_at lw_m2 38 rfl
theorem q419 : (Jvm.Cond.methodLinkNest "TroughTreaty$State" (50 : Nat) ({ cls := "TroughTreaty", name := "troughs", desc := "()I" } : Jvm.MethodName) "TroughTreaty") ∈ lw_tbl := lw_at lw_m2 57 rfl
theorem q423 : (Jvm.Cond.methodLinkNest "TroughTreaty$State" (53 : Nat) ({ cls := "TroughTreaty", name := "trough", desc := "(I)LTroughTreaty$Trough;" } : Jvm.MethodName) "TroughTreaty") ∈ lw_tbl := lw_at lw_m2 61 rfl
theorem q435 : (Jvm.Cond.fieldLinkNest "TroughTreaty$State" (76 : Nat) "TroughTreaty" "road" "LTroughTreaty$Road;" "TroughTreaty") ∈ lw_tbl := lw_at lw_m2 73 rfl
theorem q438 : (Jvm.Cond.fieldLinkNest "TroughTreaty$State" (115 : Nat) "TroughTreaty" "names" "[J" "TroughTreaty") ∈ lw_tbl := lw_at lw_m2 76 rfl
theorem q440 : (Jvm.Cond.fieldLinkNest "TroughTreaty$State" (139 : Nat) "TroughTreaty" "nature" "LTroughTreaty$Nature;" "TroughTreaty") ∈ lw_tbl := lw_at lw_m2 78 rfl
theorem q769 : (Jvm.Cond.fieldLinkNest "TroughTreaty$State" (57 : Nat) "TroughTreaty$Trough" "water" "I" "TroughTreaty") ∈ lw_tbl := lw_at lw_m3 167 rfl
theorem q771 : (Jvm.Cond.fieldLinkNest "TroughTreaty$State" (201 : Nat) "TroughTreaty$Trough" "fill" "I" "TroughTreaty") ∈ lw_tbl := lw_at lw_m3 169 rfl
theorem q775 : (Jvm.Cond.fieldLink "TroughTreaty$State" (42 : Nat) "TroughTreaty$Horse" "place" "I") ∈ lw_all := lw_g (lw_at lw_m3 173 rfl) rfl
theorem q777 : (Jvm.Cond.fieldLink "TroughTreaty$State" (126 : Nat) "TroughTreaty$Trough" "place" "I") ∈ lw_all := lw_g (lw_at lw_m3 175 rfl) rfl
theorem q841 : (Jvm.Cond.selects "TroughTreaty$State" ({ cls := "java/lang/Object", name := "getClass", desc := "()Ljava/lang/Class;" } : Jvm.MethodName) ({ cls := "java/lang/Object", name := "getClass", desc := "()Ljava/lang/Class;" } : Jvm.MethodName)) ∈ lw_all := lw_g (lw_at lw_m3 239 rfl) rfl
theorem q872 : (Jvm.Cond.fieldLinkNest "TroughTreaty$State" (123 : Nat) "TroughTreaty$Horse" "side" "I" "TroughTreaty") ∈ lw_tbl := lw_at lw_m4 30 rfl
theorem q875 : (Jvm.Cond.fieldLinkNest "TroughTreaty$State" (48 : Nat) "TroughTreaty$Horse" "thirst" "I" "TroughTreaty") ∈ lw_tbl := lw_at lw_m4 33 rfl
theorem q877 : (Jvm.Cond.fieldLinkNest "TroughTreaty$State" (104 : Nat) "TroughTreaty$Horse" "pace" "I" "TroughTreaty") ∈ lw_tbl := lw_at lw_m4 35 rfl
theorem q900 : (Jvm.Cond.fieldLinkNest "TroughTreaty$State" (178 : Nat) "TroughTreaty$Lap" "horse" "I" "TroughTreaty") ∈ lw_tbl := lw_at lw_m4 58 rfl
theorem q902 : (Jvm.Cond.fieldLinkNest "TroughTreaty$State" (180 : Nat) "TroughTreaty$Lap" "trough" "I" "TroughTreaty") ∈ lw_tbl := lw_at lw_m4 60 rfl
theorem q904 : (Jvm.Cond.fieldLinkNest "TroughTreaty$State" (177 : Nat) "TroughTreaty$Lap" "hour" "I" "TroughTreaty") ∈ lw_tbl := lw_at lw_m4 62 rfl
theorem q1026 : (Jvm.Cond.instanceMethod ({ cls := "TroughTreaty$State", name := "isOn", desc := "(I)Z" } : Jvm.MethodName)) ∈ lw_all := lw_g (lw_at lw_m4 184 rfl) rfl
theorem q1027 : (Jvm.Cond.selects "TroughTreaty$State" ({ cls := "TroughTreaty$State", name := "isOn", desc := "(I)Z" } : Jvm.MethodName) ({ cls := "TroughTreaty$State", name := "isOn", desc := "(I)Z" } : Jvm.MethodName)) ∈ lw_all := lw_g (lw_at lw_m4 185 rfl) rfl
theorem q1028 : (Jvm.Cond.code ({ cls := "TroughTreaty$State", name := "isOn", desc := "(I)Z" } : Jvm.MethodName) prog_17_method_5_code (2 : Nat) (Option.some Jvm.ClassFile.FieldType.boolean)) ∈ lw_all := lw_g (lw_at lw_m4 186 rfl) rfl
theorem q1040 : (Jvm.Cond.instanceMethod ({ cls := "TroughTreaty$State", name := "name", desc := "(I)V" } : Jvm.MethodName)) ∈ lw_all := lw_g (lw_at lw_m4 198 rfl) rfl
theorem q1041 : (Jvm.Cond.selects "TroughTreaty$State" ({ cls := "TroughTreaty$State", name := "name", desc := "(I)V" } : Jvm.MethodName) ({ cls := "TroughTreaty$State", name := "name", desc := "(I)V" } : Jvm.MethodName)) ∈ lw_all := lw_g (lw_at lw_m4 199 rfl) rfl
theorem q1042 : (Jvm.Cond.code ({ cls := "TroughTreaty$State", name := "name", desc := "(I)V" } : Jvm.MethodName) prog_17_method_8_code (3 : Nat) (Option.none : Option Jvm.ClassFile.FieldType)) ∈ lw_all := lw_g (lw_at lw_m4 200 rfl) rfl
theorem q1043 : (Jvm.Cond.methodLink "TroughTreaty$State" (110 : Nat) ({ cls := "TroughTreaty$Placed", name := "at", desc := "(Ljava/util/ArrayList;I)I" } : Jvm.MethodName)) ∈ lw_all := lw_g (lw_at lw_m4 201 rfl) rfl
theorem q1044 : (Jvm.Cond.methodLink "TroughTreaty$State" (119 : Nat) ({ cls := "TroughTreaty$State", name := "paceOf", desc := "(I)I" } : Jvm.MethodName)) ∈ lw_all := lw_g (lw_at lw_m4 202 rfl) rfl
theorem q1045 : (Jvm.Cond.instanceMethod ({ cls := "TroughTreaty$State", name := "paceOf", desc := "(I)I" } : Jvm.MethodName)) ∈ lw_all := lw_g (lw_at lw_m4 203 rfl) rfl
theorem q1046 : (Jvm.Cond.selects "TroughTreaty$State" ({ cls := "TroughTreaty$State", name := "paceOf", desc := "(I)I" } : Jvm.MethodName) ({ cls := "TroughTreaty$State", name := "paceOf", desc := "(I)I" } : Jvm.MethodName)) ∈ lw_all := lw_g (lw_at lw_m4 204 rfl) rfl
theorem q1047 : (Jvm.Cond.code ({ cls := "TroughTreaty$State", name := "paceOf", desc := "(I)I" } : Jvm.MethodName) prog_17_method_6_code (2 : Nat) (Option.some Jvm.ClassFile.FieldType.int)) ∈ lw_all := lw_g (lw_at lw_m4 205 rfl) rfl
theorem q1048 : (Jvm.Cond.methodLink "TroughTreaty$State" (127 : Nat) ({ cls := "java/lang/Math", name := "abs", desc := "(I)I" } : Jvm.MethodName)) ∈ lw_all := lw_g (lw_at lw_m4 206 rfl) rfl
theorem q1100 : (Jvm.Cond.instanceMethod ({ cls := "TroughTreaty$State", name := "become", desc := "(LTroughTreaty$State;)V" } : Jvm.MethodName)) ∈ lw_all := lw_g (lw_at lw_m5 18 rfl) rfl
theorem q1101 : (Jvm.Cond.selects "TroughTreaty$State" ({ cls := "TroughTreaty$State", name := "become", desc := "(LTroughTreaty$State;)V" } : Jvm.MethodName) ({ cls := "TroughTreaty$State", name := "become", desc := "(LTroughTreaty$State;)V" } : Jvm.MethodName)) ∈ lw_all := lw_g (lw_at lw_m5 19 rfl) rfl
theorem q1102 : (Jvm.Cond.code ({ cls := "TroughTreaty$State", name := "become", desc := "(LTroughTreaty$State;)V" } : Jvm.MethodName) prog_17_method_3_code (3 : Nat) (Option.none : Option Jvm.ClassFile.FieldType)) ∈ lw_all := lw_g (lw_at lw_m5 20 rfl) rfl
theorem q1120 : (Jvm.Cond.instanceMethod ({ cls := "TroughTreaty$State", name := "pass", desc := "(Z)V" } : Jvm.MethodName)) ∈ lw_all := lw_g (lw_at lw_m5 38 rfl) rfl
theorem q1121 : (Jvm.Cond.selects "TroughTreaty$State" ({ cls := "TroughTreaty$State", name := "pass", desc := "(Z)V" } : Jvm.MethodName) ({ cls := "TroughTreaty$State", name := "pass", desc := "(Z)V" } : Jvm.MethodName)) ∈ lw_all := lw_g (lw_at lw_m5 39 rfl) rfl
theorem q1122 : (Jvm.Cond.code ({ cls := "TroughTreaty$State", name := "pass", desc := "(Z)V" } : Jvm.MethodName) prog_17_method_13_code (4 : Nat) (Option.none : Option Jvm.ClassFile.FieldType)) ∈ lw_all := lw_g (lw_at lw_m5 40 rfl) rfl
theorem q1123 : (Jvm.Cond.methodLink "TroughTreaty$State" (166 : Nat) ({ cls := "java/util/ArrayList", name := "size", desc := "()I" } : Jvm.MethodName)) ∈ lw_all := lw_g (lw_at lw_m5 41 rfl) rfl
theorem q1124 : (Jvm.Cond.methodLink "TroughTreaty$State" (171 : Nat) ({ cls := "java/util/ArrayList", name := "get", desc := "(I)Ljava/lang/Object;" } : Jvm.MethodName)) ∈ lw_all := lw_g (lw_at lw_m5 42 rfl) rfl
theorem q1125 : (Jvm.Cond.classLink "TroughTreaty$State" (175 : Nat) "TroughTreaty$Lap") ∈ lw_all := lw_g (lw_at lw_m5 43 rfl) rfl
theorem q1126 : (Jvm.Cond.methodLink "TroughTreaty$State" (182 : Nat) ({ cls := "TroughTreaty$State", name := "isOn", desc := "(I)Z" } : Jvm.MethodName)) ∈ lw_all := lw_g (lw_at lw_m5 44 rfl) rfl
theorem q1127 : (Jvm.Cond.methodLink "TroughTreaty$State" (186 : Nat) ({ cls := "TroughTreaty$State", name := "walk", desc := "(I)V" } : Jvm.MethodName)) ∈ lw_all := lw_g (lw_at lw_m5 45 rfl) rfl
theorem q1128 : (Jvm.Cond.privateMethod ({ cls := "TroughTreaty$State", name := "walk", desc := "(I)V" } : Jvm.MethodName)) ∈ lw_tbl := lw_at lw_m5 46 rfl
theorem q1129 : (Jvm.Cond.instanceMethod ({ cls := "TroughTreaty$State", name := "walk", desc := "(I)V" } : Jvm.MethodName)) ∈ lw_all := lw_g (lw_at lw_m5 47 rfl) rfl
theorem q1130 : (Jvm.Cond.code ({ cls := "TroughTreaty$State", name := "walk", desc := "(I)V" } : Jvm.MethodName) prog_17_method_9_code (3 : Nat) (Option.none : Option Jvm.ClassFile.FieldType)) ∈ lw_all := lw_g (lw_at lw_m5 48 rfl) rfl
theorem q1131 : (Jvm.Cond.methodLink "TroughTreaty$State" (132 : Nat) ({ cls := "java/lang/Math", name := "min", desc := "(II)I" } : Jvm.MethodName)) ∈ lw_all := lw_g (lw_at lw_m5 49 rfl) rfl
theorem q1132 : (Jvm.Cond.methodLink "TroughTreaty$State" (136 : Nat) ({ cls := "java/lang/Math", name := "max", desc := "(II)I" } : Jvm.MethodName)) ∈ lw_all := lw_g (lw_at lw_m5 50 rfl) rfl
theorem q1133 : (Jvm.Cond.methodLink "TroughTreaty$State" (143 : Nat) ({ cls := "TroughTreaty$Nature", name := "dries", desc := "(LTroughTreaty$State;I)I" } : Jvm.MethodName)) ∈ lw_all := lw_g (lw_at lw_m5 51 rfl) rfl
theorem q1156 : (Jvm.Cond.methodLink "TroughTreaty$State" (190 : Nat) ({ cls := "TroughTreaty$State", name := "drink", desc := "(I)V" } : Jvm.MethodName)) ∈ lw_all := lw_g (lw_at lw_m5 74 rfl) rfl
theorem q1157 : (Jvm.Cond.privateMethod ({ cls := "TroughTreaty$State", name := "drink", desc := "(I)V" } : Jvm.MethodName)) ∈ lw_tbl := lw_at lw_m5 75 rfl
theorem q1158 : (Jvm.Cond.instanceMethod ({ cls := "TroughTreaty$State", name := "drink", desc := "(I)V" } : Jvm.MethodName)) ∈ lw_all := lw_g (lw_at lw_m5 76 rfl) rfl
theorem q1159 : (Jvm.Cond.code ({ cls := "TroughTreaty$State", name := "drink", desc := "(I)V" } : Jvm.MethodName) prog_17_method_10_code (4 : Nat) (Option.none : Option Jvm.ClassFile.FieldType)) ∈ lw_all := lw_g (lw_at lw_m5 77 rfl) rfl
theorem q1160 : (Jvm.Cond.methodLink "TroughTreaty$State" (149 : Nat) ({ cls := "TroughTreaty$Nature", name := "gulps", desc := "(LTroughTreaty$State;I)I" } : Jvm.MethodName)) ∈ lw_all := lw_g (lw_at lw_m5 78 rfl) rfl
theorem q1168 : (Jvm.Cond.methodLink "TroughTreaty$State" (193 : Nat) ({ cls := "TroughTreaty$State", name := "meet", desc := "(II)V" } : Jvm.MethodName)) ∈ lw_all := lw_g (lw_at lw_m5 86 rfl) rfl
theorem q1169 : (Jvm.Cond.privateMethod ({ cls := "TroughTreaty$State", name := "meet", desc := "(II)V" } : Jvm.MethodName)) ∈ lw_tbl := lw_at lw_m5 87 rfl
theorem q1170 : (Jvm.Cond.instanceMethod ({ cls := "TroughTreaty$State", name := "meet", desc := "(II)V" } : Jvm.MethodName)) ∈ lw_all := lw_g (lw_at lw_m5 88 rfl) rfl
theorem q1171 : (Jvm.Cond.code ({ cls := "TroughTreaty$State", name := "meet", desc := "(II)V" } : Jvm.MethodName) prog_17_method_11_code (6 : Nat) (Option.none : Option Jvm.ClassFile.FieldType)) ∈ lw_all := lw_g (lw_at lw_m5 89 rfl) rfl
theorem q1172 : (Jvm.Cond.methodLink "TroughTreaty$State" (155 : Nat) ({ cls := "TroughTreaty$Nature", name := "fights", desc := "(LTroughTreaty$State;I)I" } : Jvm.MethodName)) ∈ lw_all := lw_g (lw_at lw_m5 90 rfl) rfl
theorem q1180 : (Jvm.Cond.methodLink "TroughTreaty$State" (197 : Nat) ({ cls := "TroughTreaty$State", name := "rains", desc := "(Z)Z" } : Jvm.MethodName)) ∈ lw_all := lw_g (lw_at lw_m5 98 rfl) rfl
theorem q1181 : (Jvm.Cond.privateMethod ({ cls := "TroughTreaty$State", name := "rains", desc := "(Z)Z" } : Jvm.MethodName)) ∈ lw_tbl := lw_at lw_m5 99 rfl
theorem q1182 : (Jvm.Cond.instanceMethod ({ cls := "TroughTreaty$State", name := "rains", desc := "(Z)Z" } : Jvm.MethodName)) ∈ lw_all := lw_g (lw_at lw_m5 100 rfl) rfl
theorem q1183 : (Jvm.Cond.code ({ cls := "TroughTreaty$State", name := "rains", desc := "(Z)Z" } : Jvm.MethodName) prog_17_method_12_code (2 : Nat) (Option.some Jvm.ClassFile.FieldType.boolean)) ∈ lw_all := lw_g (lw_at lw_m5 101 rfl) rfl
theorem q1184 : (Jvm.Cond.methodLink "TroughTreaty$State" (160 : Nat) ({ cls := "TroughTreaty$State", name := "draw", desc := "(I)I" } : Jvm.MethodName)) ∈ lw_all := lw_g (lw_at lw_m5 102 rfl) rfl
theorem q1185 : (Jvm.Cond.instanceMethod ({ cls := "TroughTreaty$State", name := "draw", desc := "(I)I" } : Jvm.MethodName)) ∈ lw_all := lw_g (lw_at lw_m5 103 rfl) rfl
theorem q1186 : (Jvm.Cond.selects "TroughTreaty$State" ({ cls := "TroughTreaty$State", name := "draw", desc := "(I)I" } : Jvm.MethodName) ({ cls := "TroughTreaty$State", name := "draw", desc := "(I)I" } : Jvm.MethodName)) ∈ lw_all := lw_g (lw_at lw_m5 104 rfl) rfl
theorem q1187 : (Jvm.Cond.code ({ cls := "TroughTreaty$State", name := "draw", desc := "(I)I" } : Jvm.MethodName) prog_17_method_4_code (2 : Nat) (Option.some Jvm.ClassFile.FieldType.int)) ∈ lw_all := lw_g (lw_at lw_m5 105 rfl) rfl
theorem q1188 : (Jvm.Cond.constant "TroughTreaty$State" (100 : Nat) (1103515245 : Int32)) ∈ lw_all := lw_g (lw_at lw_m5 106 rfl) rfl
theorem q1189 : (Jvm.Cond.constant "TroughTreaty$State" (103 : Nat) (2147483647 : Int32)) ∈ lw_all := lw_g (lw_at lw_m5 107 rfl) rfl
theorem q1196 : (Jvm.Cond.instanceMethod ({ cls := "TroughTreaty$State", name := "goesOn", desc := "(I)V" } : Jvm.MethodName)) ∈ lw_all := lw_g (lw_at lw_m5 114 rfl) rfl
theorem q1197 : (Jvm.Cond.selects "TroughTreaty$State" ({ cls := "TroughTreaty$State", name := "goesOn", desc := "(I)V" } : Jvm.MethodName) ({ cls := "TroughTreaty$State", name := "goesOn", desc := "(I)V" } : Jvm.MethodName)) ∈ lw_all := lw_g (lw_at lw_m5 115 rfl) rfl
theorem q1198 : (Jvm.Cond.code ({ cls := "TroughTreaty$State", name := "goesOn", desc := "(I)V" } : Jvm.MethodName) prog_17_method_14_code (3 : Nat) (Option.none : Option Jvm.ClassFile.FieldType)) ∈ lw_all := lw_g (lw_at lw_m5 116 rfl) rfl
theorem q1199 : (Jvm.Cond.methodLink "TroughTreaty$State" (204 : Nat) ({ cls := "TroughTreaty$State", name := "pass", desc := "(Z)V" } : Jvm.MethodName)) ∈ lw_all := lw_g (lw_at lw_m5 117 rfl) rfl
theorem q1448 : (Jvm.Cond.instanceMethod ({ cls := "TroughTreaty$State", name := "sum", desc := "([II)I" } : Jvm.MethodName)) ∈ lw_all := lw_g (lw_at lw_m6 126 rfl) rfl
theorem q1449 : (Jvm.Cond.selects "TroughTreaty$State" ({ cls := "TroughTreaty$State", name := "sum", desc := "([II)I" } : Jvm.MethodName) ({ cls := "TroughTreaty$State", name := "sum", desc := "([II)I" } : Jvm.MethodName)) ∈ lw_all := lw_g (lw_at lw_m6 127 rfl) rfl
theorem q1450 : (Jvm.Cond.code ({ cls := "TroughTreaty$State", name := "sum", desc := "([II)I" } : Jvm.MethodName) prog_17_method_7_code (5 : Nat) (Option.some Jvm.ClassFile.FieldType.int)) ∈ lw_all := lw_g (lw_at lw_m6 128 rfl) rfl
theorem q2272 : (Jvm.Cond.castable "TroughTreaty$State" "java/lang/Object") ∈ lw_tbl := lw_at lw_m9 230 rfl
theorem in_X6 : ∀ w ∈ wsX60, w ∈ lw_all := lw_in wsX60 [347, 349, 351, 353, 355, 357, 359, 361, 363, 365, 367, 369, 371, 373, 375, 377, 379, 381] (by decide +kernel) (by decide +kernel)

/-! TroughTreaty$Fault -/
set_option maxRecDepth 100000
def RX8 : String := "TroughTreaty$Fault"
def TX8 : u_T := fun k => match k with
  | 0 => ("java/lang/Throwable", "cause", "Ljava/lang/Throwable;", false)
  | 1 => ("java/lang/Throwable", "stackTrace", "[Ljava/lang/StackTraceElement;", false)
  | 2 => ("java/lang/Throwable", "suppressedExceptions", "Ljava/util/List;", false)
  | 3 => ("java/lang/Throwable", "detailMessage", "Ljava/lang/String;", false)
  | 4 => ("java/lang/Throwable", "backtrace", "Ljava/lang/Object;", false)
  | 5 => ("java/lang/Throwable", "depth", "I", false)
  | 6 => ("TroughTreaty$Fault", "kind", "I", true)
  | _ => ("TroughTreaty$Fault", "place", "I", true)
def tyX8 : Nat → FieldType := fun k => match k with
  | 0 => .object "java/lang/Throwable"
  | 1 => .array (.object "java/lang/StackTraceElement")
  | 2 => .object "java/util/List"
  | 3 => .object "java/lang/String"
  | 4 => .object "java/lang/Object"
  | 5 => .int
  | 6 => .int
  | _ => .int
abbrev wsX80 : List Cond := u_ws RX8 TX8 8
theorem nmX8 : ∀ a, a < 8 → ∀ b, b < 8 → a ≠ b → (TX8 a).2.1 ≠ (TX8 b).2.1 := by decide +kernel
theorem tyX8_ok : ∀ k, k < 8 → parseFieldDescriptor (TX8 k).2.2.1 = some (tyX8 k) := by decide +kernel
abbrev cX8_init : ByteArray := prog_2_method_1_code
def yX8_init : MethodName := ⟨RX8, "<init>", "(II)V"⟩
def dkwX8_init_0 : List UInt8 := [42, 1, 1, 3, 3, 183, 0, 1, 42, 27, 181, 0, 7, 42, 28, 181, 0, 13, 177]
abbrev dktX8_init_0 : List UInt8 := dkwX8_init_0 ++ []
theorem dksX8_init_0 : cX8_init.data.toList.drop 0 = dktX8_init_0 := by decide +kernel
theorem dX8_init_0 : decode cX8_init 0 = .ok (.aload_n 0, 1) := dk_42 (dk_at dksX8_init_0 0 rfl rfl)
theorem dX8_init_1 : decode cX8_init 1 = .ok (.aconst_null, 1) := dk_1 (dk_at dksX8_init_0 1 rfl rfl)
theorem dX8_init_2 : decode cX8_init 2 = .ok (.aconst_null, 1) := dk_1 (dk_at dksX8_init_0 2 rfl rfl)
theorem dX8_init_3 : decode cX8_init 3 = .ok (.iconst 0, 1) := dk_3 (dk_at dksX8_init_0 3 rfl rfl)
theorem dX8_init_4 : decode cX8_init 4 = .ok (.iconst 0, 1) := dk_3 (dk_at dksX8_init_0 4 rfl rfl)
theorem dX8_init_5 : decode cX8_init 5 = .ok (.invokespecial 1, 3) := dk_183 0 1 (dk_at dksX8_init_0 5 rfl rfl)
theorem dX8_init_8 : decode cX8_init 8 = .ok (.aload_n 0, 1) := dk_42 (dk_at dksX8_init_0 8 rfl rfl)
theorem dX8_init_9 : decode cX8_init 9 = .ok (.iload_n 1, 1) := dk_27 (dk_at dksX8_init_0 9 rfl rfl)
theorem dX8_init_10 : decode cX8_init 10 = .ok (.putfield 7, 3) := dk_181 0 7 (dk_at dksX8_init_0 10 rfl rfl)
theorem dX8_init_13 : decode cX8_init 13 = .ok (.aload_n 0, 1) := dk_42 (dk_at dksX8_init_0 13 rfl rfl)
theorem dX8_init_14 : decode cX8_init 14 = .ok (.iload_n 2, 1) := dk_28 (dk_at dksX8_init_0 14 rfl rfl)
theorem dX8_init_15 : decode cX8_init 15 = .ok (.putfield 13, 3) := dk_181 0 13 (dk_at dksX8_init_0 15 rfl rfl)
theorem dX8_init_18 : decode cX8_init 18 = .ok (.return_, 1) := dk_177 (dk_at dksX8_init_0 18 rfl rfl)
theorem q142 : (Jvm.Cond.initialized "TroughTreaty$Fault") ∈ lw_all := lw_g (lw_at lw_m1 20 rfl) rfl
theorem q660 : (Jvm.Cond.instantiable "TroughTreaty$Fault" (8 : Nat)) ∈ lw_all := lw_g (lw_at lw_m3 58 rfl) rfl
theorem q661 : (Jvm.Cond.castable "TroughTreaty$Fault" "TroughTreaty$Fault") ∈ lw_tbl := lw_at lw_m3 59 rfl
theorem q666 : (Jvm.Cond.selects "TroughTreaty$Fault" ({ cls := "java/lang/Throwable", name := "fillInStackTrace", desc := "(I)Ljava/lang/Throwable;" } : Jvm.MethodName) ({ cls := "java/lang/Throwable", name := "fillInStackTrace", desc := "(I)Ljava/lang/Throwable;" } : Jvm.MethodName)) ∈ lw_all := lw_g (lw_at lw_m3 64 rfl) rfl
theorem q667 : (Jvm.Cond.selects "TroughTreaty$Fault" ({ cls := "java/lang/Throwable", name := "fillInStackTrace", desc := "()Ljava/lang/Throwable;" } : Jvm.MethodName) ({ cls := "java/lang/Throwable", name := "fillInStackTrace", desc := "()Ljava/lang/Throwable;" } : Jvm.MethodName)) ∈ lw_all := lw_g (lw_at lw_m3 65 rfl) rfl
theorem q668 : (Jvm.Cond.lays "TroughTreaty$Fault" "java/lang/Throwable" "cause" "Ljava/lang/Throwable;") ∈ lw_all := lw_g (lw_at lw_m3 66 rfl) rfl
theorem q670 : (Jvm.Cond.lays "TroughTreaty$Fault" "java/lang/Throwable" "stackTrace" "[Ljava/lang/StackTraceElement;") ∈ lw_all := lw_g (lw_at lw_m3 68 rfl) rfl
theorem q672 : (Jvm.Cond.lays "TroughTreaty$Fault" "java/lang/Throwable" "suppressedExceptions" "Ljava/util/List;") ∈ lw_all := lw_g (lw_at lw_m3 70 rfl) rfl
theorem q674 : (Jvm.Cond.lays "TroughTreaty$Fault" "java/lang/Throwable" "detailMessage" "Ljava/lang/String;") ∈ lw_all := lw_g (lw_at lw_m3 72 rfl) rfl
theorem q676 : (Jvm.Cond.lays "TroughTreaty$Fault" "java/lang/Throwable" "backtrace" "Ljava/lang/Object;") ∈ lw_all := lw_g (lw_at lw_m3 74 rfl) rfl
theorem q701 : (Jvm.Cond.instanceMethod ({ cls := "TroughTreaty$Fault", name := "<init>", desc := "(II)V" } : Jvm.MethodName)) ∈ lw_all := lw_g (lw_at lw_m3 99 rfl) rfl
theorem q702 : (Jvm.Cond.code ({ cls := "TroughTreaty$Fault", name := "<init>", desc := "(II)V" } : Jvm.MethodName) prog_2_method_1_code (3 : Nat) (Option.none : Option Jvm.ClassFile.FieldType)) ∈ lw_all := lw_g (lw_at lw_m3 100 rfl) rfl
theorem q703 : (Jvm.Cond.methodLink "TroughTreaty$Fault" (1 : Nat) ({ cls := "java/lang/Exception", name := "<init>", desc := "(Ljava/lang/String;Ljava/lang/Throwable;ZZ)V" } : Jvm.MethodName)) ∈ lw_all := lw_g (lw_at lw_m3 101 rfl) rfl
theorem q709 : (Jvm.Cond.fieldLink "TroughTreaty$Fault" (7 : Nat) "TroughTreaty$Fault" "kind" "I") ∈ lw_all := lw_g (lw_at lw_m3 107 rfl) rfl
theorem q711 : (Jvm.Cond.fieldLink "TroughTreaty$Fault" (13 : Nat) "TroughTreaty$Fault" "place" "I") ∈ lw_all := lw_g (lw_at lw_m3 109 rfl) rfl
theorem q718 : (Jvm.Cond.laysFinal "TroughTreaty$Fault" "TroughTreaty$Fault" "kind" "I") ∈ lw_all := lw_g (lw_at lw_m3 116 rfl) rfl
theorem q719 : (Jvm.Cond.soleField "TroughTreaty$Fault" "kind") ∈ lw_all := lw_g (lw_at lw_m3 117 rfl) rfl
theorem q720 : (Jvm.Cond.laysFinal "TroughTreaty$Fault" "TroughTreaty$Fault" "place" "I") ∈ lw_all := lw_g (lw_at lw_m3 118 rfl) rfl
theorem q721 : (Jvm.Cond.soleField "TroughTreaty$Fault" "place") ∈ lw_all := lw_g (lw_at lw_m3 119 rfl) rfl
theorem q726 : (Jvm.Cond.lays "TroughTreaty$Fault" "java/lang/Throwable" "depth" "I") ∈ lw_all := lw_g (lw_at lw_m3 124 rfl) rfl
theorem q729 : (Jvm.Cond.superclass "TroughTreaty$Fault" "java/lang/Exception") ∈ lw_all := lw_g (lw_at lw_m3 127 rfl) rfl
theorem q831 : (Jvm.Cond.selects "TroughTreaty$Fault" ({ cls := "java/lang/Object", name := "getClass", desc := "()Ljava/lang/Class;" } : Jvm.MethodName) ({ cls := "java/lang/Object", name := "getClass", desc := "()Ljava/lang/Class;" } : Jvm.MethodName)) ∈ lw_all := lw_g (lw_at lw_m3 229 rfl) rfl
theorem q2280 : (Jvm.Cond.castable "TroughTreaty$Fault" "java/lang/Object") ∈ lw_tbl := lw_at lw_m9 238 rfl
theorem in_X8 : ∀ w ∈ wsX80, w ∈ lw_all := lw_in wsX80 [668, 670, 672, 674, 676, 726, 718, 720] (by decide +kernel) (by decide +kernel)

/-! TroughTreaty$Named -/
set_option maxRecDepth 100000
def RX9 : String := "TroughTreaty$Named"
abbrev cX9_find : ByteArray := prog_8_method_2_code
def yX9_find : MethodName := ⟨RX9, "find", "(Ljava/util/ArrayList;I)I"⟩
def dkwX9_find_1 : List UInt8 := [160, 0, 5, 28, 172, 132, 2, 1, 167, 255, 228, 2, 172]
abbrev dktX9_find_1 : List UInt8 := dkwX9_find_1 ++ []
def dkwX9_find_0 : List UInt8 := [3, 61, 28, 42, 182, 0, 15, 162, 0, 26, 42, 28, 182, 0, 21, 192, 0, 10, 180, 0, 9, 27]
abbrev dktX9_find_0 : List UInt8 := dkwX9_find_0 ++ dktX9_find_1
theorem dksX9_find_0 : cX9_find.data.toList.drop 0 = dktX9_find_0 := by decide +kernel
theorem dksX9_find_1 : cX9_find.data.toList.drop 22 = dktX9_find_1 := dk_seg dksX9_find_0 22 rfl rfl
theorem dX9_find_0 : decode cX9_find 0 = .ok (.iconst 0, 1) := dk_3 (dk_at dksX9_find_0 0 rfl rfl)
theorem dX9_find_1 : decode cX9_find 1 = .ok (.istore_n 2, 1) := dk_61 (dk_at dksX9_find_0 1 rfl rfl)
theorem dX9_find_2 : decode cX9_find 2 = .ok (.iload_n 2, 1) := dk_28 (dk_at dksX9_find_0 2 rfl rfl)
theorem dX9_find_3 : decode cX9_find 3 = .ok (.aload_n 0, 1) := dk_42 (dk_at dksX9_find_0 3 rfl rfl)
theorem dX9_find_4 : decode cX9_find 4 = .ok (.invokevirtual 15, 3) := dk_182 0 15 (dk_at dksX9_find_0 4 rfl rfl)
theorem dX9_find_7 : decode cX9_find 7 = .ok (.if_icmp .ge 26, 3) := dk_162 0 26 (dk_at dksX9_find_0 7 rfl rfl)
theorem dX9_find_10 : decode cX9_find 10 = .ok (.aload_n 0, 1) := dk_42 (dk_at dksX9_find_0 10 rfl rfl)
theorem dX9_find_11 : decode cX9_find 11 = .ok (.iload_n 2, 1) := dk_28 (dk_at dksX9_find_0 11 rfl rfl)
theorem dX9_find_12 : decode cX9_find 12 = .ok (.invokevirtual 21, 3) := dk_182 0 21 (dk_at dksX9_find_0 12 rfl rfl)
theorem dX9_find_15 : decode cX9_find 15 = .ok (.checkcast 10, 3) := dk_192 0 10 (dk_at dksX9_find_0 15 rfl rfl)
theorem dX9_find_18 : decode cX9_find 18 = .ok (.getfield 9, 3) := dk_180 0 9 (dk_at dksX9_find_0 18 rfl rfl)
theorem dX9_find_21 : decode cX9_find 21 = .ok (.iload_n 1, 1) := dk_27 (dk_at dksX9_find_0 21 rfl rfl)
theorem dX9_find_22 : decode cX9_find 22 = .ok (.if_icmp .ne 5, 3) := dk_160 0 5 (dk_at dksX9_find_1 0 rfl rfl)
theorem dX9_find_25 : decode cX9_find 25 = .ok (.iload_n 2, 1) := dk_28 (dk_at dksX9_find_1 3 rfl rfl)
theorem dX9_find_26 : decode cX9_find 26 = .ok (.ireturn, 1) := dk_172 (dk_at dksX9_find_1 4 rfl rfl)
theorem dX9_find_27 : decode cX9_find 27 = .ok (.iinc 2 1, 3) := dk_132 2 1 (dk_at dksX9_find_1 5 rfl rfl)
theorem dX9_find_30 : decode cX9_find 30 = .ok (.goto (-28), 3) := dk_167 255 228 (dk_at dksX9_find_1 8 rfl rfl)
theorem dX9_find_33 : decode cX9_find 33 = .ok (.iconst (-1), 1) := dk_2 (dk_at dksX9_find_1 11 rfl rfl)
theorem dX9_find_34 : decode cX9_find 34 = .ok (.ireturn, 1) := dk_172 (dk_at dksX9_find_1 12 rfl rfl)
abbrev cX9_init : ByteArray := prog_8_method_1_code
def yX9_init : MethodName := ⟨RX9, "<init>", "(I)V"⟩
def dkwX9_init_0 : List UInt8 := [42, 183, 0, 3, 42, 27, 181, 0, 9, 177]
abbrev dktX9_init_0 : List UInt8 := dkwX9_init_0 ++ []
theorem dksX9_init_0 : cX9_init.data.toList.drop 0 = dktX9_init_0 := by decide +kernel
theorem dX9_init_0 : decode cX9_init 0 = .ok (.aload_n 0, 1) := dk_42 (dk_at dksX9_init_0 0 rfl rfl)
theorem dX9_init_1 : decode cX9_init 1 = .ok (.invokespecial 3, 3) := dk_183 0 3 (dk_at dksX9_init_0 1 rfl rfl)
theorem dX9_init_4 : decode cX9_init 4 = .ok (.aload_n 0, 1) := dk_42 (dk_at dksX9_init_0 4 rfl rfl)
theorem dX9_init_5 : decode cX9_init 5 = .ok (.iload_n 1, 1) := dk_27 (dk_at dksX9_init_0 5 rfl rfl)
theorem dX9_init_6 : decode cX9_init 6 = .ok (.putfield 9, 3) := dk_181 0 9 (dk_at dksX9_init_0 6 rfl rfl)
theorem dX9_init_9 : decode cX9_init 9 = .ok (.return_, 1) := dk_177 (dk_at dksX9_init_0 9 rfl rfl)
theorem q143 : (Jvm.Cond.initialized "TroughTreaty$Named") ∈ lw_all := lw_g (lw_at lw_m1 21 rfl) rfl
theorem q754 : (Jvm.Cond.static ({ cls := "TroughTreaty$Named", name := "find", desc := "(Ljava/util/ArrayList;I)I" } : Jvm.MethodName)) ∈ lw_all := lw_g (lw_at lw_m3 152 rfl) rfl
theorem q755 : (Jvm.Cond.code ({ cls := "TroughTreaty$Named", name := "find", desc := "(Ljava/util/ArrayList;I)I" } : Jvm.MethodName) prog_8_method_2_code (3 : Nat) (Option.some Jvm.ClassFile.FieldType.int)) ∈ lw_all := lw_g (lw_at lw_m3 153 rfl) rfl
theorem q756 : (Jvm.Cond.methodLink "TroughTreaty$Named" (15 : Nat) ({ cls := "java/util/ArrayList", name := "size", desc := "()I" } : Jvm.MethodName)) ∈ lw_all := lw_g (lw_at lw_m3 154 rfl) rfl
theorem q757 : (Jvm.Cond.methodLink "TroughTreaty$Named" (21 : Nat) ({ cls := "java/util/ArrayList", name := "get", desc := "(I)Ljava/lang/Object;" } : Jvm.MethodName)) ∈ lw_all := lw_g (lw_at lw_m3 155 rfl) rfl
theorem q758 : (Jvm.Cond.classLink "TroughTreaty$Named" (10 : Nat) "TroughTreaty$Named") ∈ lw_all := lw_g (lw_at lw_m3 156 rfl) rfl
theorem q766 : (Jvm.Cond.instanceMethod ({ cls := "TroughTreaty$Named", name := "<init>", desc := "(I)V" } : Jvm.MethodName)) ∈ lw_all := lw_g (lw_at lw_m3 164 rfl) rfl
theorem q767 : (Jvm.Cond.code ({ cls := "TroughTreaty$Named", name := "<init>", desc := "(I)V" } : Jvm.MethodName) prog_8_method_1_code (2 : Nat) (Option.none : Option Jvm.ClassFile.FieldType)) ∈ lw_all := lw_g (lw_at lw_m3 165 rfl) rfl
theorem q768 : (Jvm.Cond.methodLink "TroughTreaty$Named" (3 : Nat) ({ cls := "java/lang/Object", name := "<init>", desc := "()V" } : Jvm.MethodName)) ∈ lw_all := lw_g (lw_at lw_m3 166 rfl) rfl
theorem q782 : (Jvm.Cond.fieldLink "TroughTreaty$Named" (9 : Nat) "TroughTreaty$Named" "name" "I") ∈ lw_all := lw_g (lw_at lw_m3 180 rfl) rfl
theorem q790 : (Jvm.Cond.soleField "TroughTreaty$Named" "name") ∈ lw_all := lw_g (lw_at lw_m3 188 rfl) rfl

/-! TroughTreaty$Placed -/
set_option maxRecDepth 100000
def RX10 : String := "TroughTreaty$Placed"
abbrev cX10_init : ByteArray := prog_13_method_1_code
def yX10_init : MethodName := ⟨RX10, "<init>", "(I)V"⟩
def dkwX10_init_0 : List UInt8 := [42, 27, 183, 0, 3, 177]
abbrev dktX10_init_0 : List UInt8 := dkwX10_init_0 ++ []
theorem dksX10_init_0 : cX10_init.data.toList.drop 0 = dktX10_init_0 := by decide +kernel
theorem dX10_init_0 : decode cX10_init 0 = .ok (.aload_n 0, 1) := dk_42 (dk_at dksX10_init_0 0 rfl rfl)
theorem dX10_init_1 : decode cX10_init 1 = .ok (.iload_n 1, 1) := dk_27 (dk_at dksX10_init_0 1 rfl rfl)
theorem dX10_init_2 : decode cX10_init 2 = .ok (.invokespecial 3, 3) := dk_183 0 3 (dk_at dksX10_init_0 2 rfl rfl)
theorem dX10_init_5 : decode cX10_init 5 = .ok (.return_, 1) := dk_177 (dk_at dksX10_init_0 5 rfl rfl)
abbrev cX10_at : ByteArray := prog_13_method_2_code
def yX10_at : MethodName := ⟨RX10, "at", "(Ljava/util/ArrayList;I)I"⟩
def dkwX10_at_1 : List UInt8 := [160, 0, 5, 28, 172, 132, 2, 1, 167, 255, 228, 2, 172]
abbrev dktX10_at_1 : List UInt8 := dkwX10_at_1 ++ []
def dkwX10_at_0 : List UInt8 := [3, 61, 28, 42, 182, 0, 9, 162, 0, 26, 42, 28, 182, 0, 15, 192, 0, 19, 180, 0, 21, 27]
abbrev dktX10_at_0 : List UInt8 := dkwX10_at_0 ++ dktX10_at_1
theorem dksX10_at_0 : cX10_at.data.toList.drop 0 = dktX10_at_0 := by decide +kernel
theorem dksX10_at_1 : cX10_at.data.toList.drop 22 = dktX10_at_1 := dk_seg dksX10_at_0 22 rfl rfl
theorem dX10_at_0 : decode cX10_at 0 = .ok (.iconst 0, 1) := dk_3 (dk_at dksX10_at_0 0 rfl rfl)
theorem dX10_at_1 : decode cX10_at 1 = .ok (.istore_n 2, 1) := dk_61 (dk_at dksX10_at_0 1 rfl rfl)
theorem dX10_at_2 : decode cX10_at 2 = .ok (.iload_n 2, 1) := dk_28 (dk_at dksX10_at_0 2 rfl rfl)
theorem dX10_at_3 : decode cX10_at 3 = .ok (.aload_n 0, 1) := dk_42 (dk_at dksX10_at_0 3 rfl rfl)
theorem dX10_at_4 : decode cX10_at 4 = .ok (.invokevirtual 9, 3) := dk_182 0 9 (dk_at dksX10_at_0 4 rfl rfl)
theorem dX10_at_7 : decode cX10_at 7 = .ok (.if_icmp .ge 26, 3) := dk_162 0 26 (dk_at dksX10_at_0 7 rfl rfl)
theorem dX10_at_10 : decode cX10_at 10 = .ok (.aload_n 0, 1) := dk_42 (dk_at dksX10_at_0 10 rfl rfl)
theorem dX10_at_11 : decode cX10_at 11 = .ok (.iload_n 2, 1) := dk_28 (dk_at dksX10_at_0 11 rfl rfl)
theorem dX10_at_12 : decode cX10_at 12 = .ok (.invokevirtual 15, 3) := dk_182 0 15 (dk_at dksX10_at_0 12 rfl rfl)
theorem dX10_at_15 : decode cX10_at 15 = .ok (.checkcast 19, 3) := dk_192 0 19 (dk_at dksX10_at_0 15 rfl rfl)
theorem dX10_at_18 : decode cX10_at 18 = .ok (.getfield 21, 3) := dk_180 0 21 (dk_at dksX10_at_0 18 rfl rfl)
theorem dX10_at_21 : decode cX10_at 21 = .ok (.iload_n 1, 1) := dk_27 (dk_at dksX10_at_0 21 rfl rfl)
theorem dX10_at_22 : decode cX10_at 22 = .ok (.if_icmp .ne 5, 3) := dk_160 0 5 (dk_at dksX10_at_1 0 rfl rfl)
theorem dX10_at_25 : decode cX10_at 25 = .ok (.iload_n 2, 1) := dk_28 (dk_at dksX10_at_1 3 rfl rfl)
theorem dX10_at_26 : decode cX10_at 26 = .ok (.ireturn, 1) := dk_172 (dk_at dksX10_at_1 4 rfl rfl)
theorem dX10_at_27 : decode cX10_at 27 = .ok (.iinc 2 1, 3) := dk_132 2 1 (dk_at dksX10_at_1 5 rfl rfl)
theorem dX10_at_30 : decode cX10_at 30 = .ok (.goto (-28), 3) := dk_167 255 228 (dk_at dksX10_at_1 8 rfl rfl)
theorem dX10_at_33 : decode cX10_at 33 = .ok (.iconst (-1), 1) := dk_2 (dk_at dksX10_at_1 11 rfl rfl)
theorem dX10_at_34 : decode cX10_at 34 = .ok (.ireturn, 1) := dk_172 (dk_at dksX10_at_1 12 rfl rfl)
theorem q144 : (Jvm.Cond.initialized "TroughTreaty$Placed") ∈ lw_all := lw_g (lw_at lw_m1 22 rfl) rfl
theorem q763 : (Jvm.Cond.instanceMethod ({ cls := "TroughTreaty$Placed", name := "<init>", desc := "(I)V" } : Jvm.MethodName)) ∈ lw_all := lw_g (lw_at lw_m3 161 rfl) rfl
theorem q764 : (Jvm.Cond.code ({ cls := "TroughTreaty$Placed", name := "<init>", desc := "(I)V" } : Jvm.MethodName) prog_13_method_1_code (2 : Nat) (Option.none : Option Jvm.ClassFile.FieldType)) ∈ lw_all := lw_g (lw_at lw_m3 162 rfl) rfl
theorem q765 : (Jvm.Cond.methodLink "TroughTreaty$Placed" (3 : Nat) ({ cls := "TroughTreaty$Named", name := "<init>", desc := "(I)V" } : Jvm.MethodName)) ∈ lw_all := lw_g (lw_at lw_m3 163 rfl) rfl
theorem q774 : (Jvm.Cond.fieldLink "TroughTreaty$Placed" (21 : Nat) "TroughTreaty$Placed" "place" "I") ∈ lw_all := lw_g (lw_at lw_m3 172 rfl) rfl
theorem q788 : (Jvm.Cond.soleField "TroughTreaty$Placed" "place") ∈ lw_all := lw_g (lw_at lw_m3 186 rfl) rfl
theorem q793 : (Jvm.Cond.static ({ cls := "TroughTreaty$Placed", name := "at", desc := "(Ljava/util/ArrayList;I)I" } : Jvm.MethodName)) ∈ lw_all := lw_g (lw_at lw_m3 191 rfl) rfl
theorem q794 : (Jvm.Cond.code ({ cls := "TroughTreaty$Placed", name := "at", desc := "(Ljava/util/ArrayList;I)I" } : Jvm.MethodName) prog_13_method_2_code (3 : Nat) (Option.some Jvm.ClassFile.FieldType.int)) ∈ lw_all := lw_g (lw_at lw_m3 192 rfl) rfl
theorem q795 : (Jvm.Cond.methodLink "TroughTreaty$Placed" (9 : Nat) ({ cls := "java/util/ArrayList", name := "size", desc := "()I" } : Jvm.MethodName)) ∈ lw_all := lw_g (lw_at lw_m3 193 rfl) rfl
theorem q796 : (Jvm.Cond.methodLink "TroughTreaty$Placed" (15 : Nat) ({ cls := "java/util/ArrayList", name := "get", desc := "(I)Ljava/lang/Object;" } : Jvm.MethodName)) ∈ lw_all := lw_g (lw_at lw_m3 194 rfl) rfl
theorem q797 : (Jvm.Cond.classLink "TroughTreaty$Placed" (19 : Nat) "TroughTreaty$Placed") ∈ lw_all := lw_g (lw_at lw_m3 195 rfl) rfl

/-! TroughTreaty$Trough -/
set_option maxRecDepth 100000
def RX11 : String := "TroughTreaty$Trough"
def TX11 : u_T := fun k => match k with
  | 0 => ("TroughTreaty$Placed", "place", "I", false)
  | 1 => ("TroughTreaty$Named", "name", "I", true)
  | 2 => ("TroughTreaty$Trough", "water", "I", false)
  | _ => ("TroughTreaty$Trough", "fill", "I", false)
def tyX11 : Nat → FieldType := fun k => match k with
  | 0 => .int
  | 1 => .int
  | 2 => .int
  | _ => .int
abbrev wsX110 : List Cond := u_ws RX11 TX11 4
theorem nmX11 : ∀ a, a < 4 → ∀ b, b < 4 → a ≠ b → (TX11 a).2.1 ≠ (TX11 b).2.1 := by decide +kernel
theorem tyX11_ok : ∀ k, k < 4 → parseFieldDescriptor (TX11 k).2.2.1 = some (tyX11 k) := by decide +kernel
abbrev cX11_init : ByteArray := prog_20_method_1_code
def yX11_init : MethodName := ⟨RX11, "<init>", "(I)V"⟩
def dkwX11_init_0 : List UInt8 := [42, 27, 183, 0, 1, 177]
abbrev dktX11_init_0 : List UInt8 := dkwX11_init_0 ++ []
theorem dksX11_init_0 : cX11_init.data.toList.drop 0 = dktX11_init_0 := by decide +kernel
theorem dX11_init_0 : decode cX11_init 0 = .ok (.aload_n 0, 1) := dk_42 (dk_at dksX11_init_0 0 rfl rfl)
theorem dX11_init_1 : decode cX11_init 1 = .ok (.iload_n 1, 1) := dk_27 (dk_at dksX11_init_0 1 rfl rfl)
theorem dX11_init_2 : decode cX11_init 2 = .ok (.invokespecial 1, 3) := dk_183 0 1 (dk_at dksX11_init_0 2 rfl rfl)
theorem dX11_init_5 : decode cX11_init 5 = .ok (.return_, 1) := dk_177 (dk_at dksX11_init_0 5 rfl rfl)
theorem q145 : (Jvm.Cond.initialized "TroughTreaty$Trough") ∈ lw_all := lw_g (lw_at lw_m1 23 rfl) rfl
theorem q748 : (Jvm.Cond.instantiable "TroughTreaty$Trough" (4 : Nat)) ∈ lw_all := lw_g (lw_at lw_m3 146 rfl) rfl
theorem q760 : (Jvm.Cond.instanceMethod ({ cls := "TroughTreaty$Trough", name := "<init>", desc := "(I)V" } : Jvm.MethodName)) ∈ lw_all := lw_g (lw_at lw_m3 158 rfl) rfl
theorem q761 : (Jvm.Cond.code ({ cls := "TroughTreaty$Trough", name := "<init>", desc := "(I)V" } : Jvm.MethodName) prog_20_method_1_code (2 : Nat) (Option.none : Option Jvm.ClassFile.FieldType)) ∈ lw_all := lw_g (lw_at lw_m3 159 rfl) rfl
theorem q762 : (Jvm.Cond.methodLink "TroughTreaty$Trough" (1 : Nat) ({ cls := "TroughTreaty$Placed", name := "<init>", desc := "(I)V" } : Jvm.MethodName)) ∈ lw_all := lw_g (lw_at lw_m3 160 rfl) rfl
theorem q778 : (Jvm.Cond.sameField "TroughTreaty$Trough" "TroughTreaty$Placed" "place" "I") ∈ lw_all := lw_g (lw_at lw_m3 176 rfl) rfl
theorem q783 : (Jvm.Cond.lays "TroughTreaty$Trough" "TroughTreaty$Trough" "water" "I") ∈ lw_all := lw_g (lw_at lw_m3 181 rfl) rfl
theorem q784 : (Jvm.Cond.soleField "TroughTreaty$Trough" "water") ∈ lw_all := lw_g (lw_at lw_m3 182 rfl) rfl
theorem q785 : (Jvm.Cond.lays "TroughTreaty$Trough" "TroughTreaty$Trough" "fill" "I") ∈ lw_all := lw_g (lw_at lw_m3 183 rfl) rfl
theorem q786 : (Jvm.Cond.soleField "TroughTreaty$Trough" "fill") ∈ lw_all := lw_g (lw_at lw_m3 184 rfl) rfl
theorem q787 : (Jvm.Cond.lays "TroughTreaty$Trough" "TroughTreaty$Placed" "place" "I") ∈ lw_all := lw_g (lw_at lw_m3 185 rfl) rfl
theorem q789 : (Jvm.Cond.laysFinal "TroughTreaty$Trough" "TroughTreaty$Named" "name" "I") ∈ lw_all := lw_g (lw_at lw_m3 187 rfl) rfl
theorem q791 : (Jvm.Cond.superclass "TroughTreaty$Trough" "TroughTreaty$Placed") ∈ lw_all := lw_g (lw_at lw_m3 189 rfl) rfl
theorem q844 : (Jvm.Cond.selects "TroughTreaty$Trough" ({ cls := "java/lang/Object", name := "getClass", desc := "()Ljava/lang/Class;" } : Jvm.MethodName) ({ cls := "java/lang/Object", name := "getClass", desc := "()Ljava/lang/Class;" } : Jvm.MethodName)) ∈ lw_all := lw_g (lw_at lw_m4 2 rfl) rfl
theorem q2266 : (Jvm.Cond.castable "TroughTreaty$Trough" "TroughTreaty$Named") ∈ lw_tbl := lw_at lw_m9 224 rfl
theorem q2268 : (Jvm.Cond.castable "TroughTreaty$Trough" "TroughTreaty$Placed") ∈ lw_tbl := lw_at lw_m9 226 rfl
theorem q2281 : (Jvm.Cond.castable "TroughTreaty$Trough" "java/lang/Object") ∈ lw_tbl := lw_at lw_m9 239 rfl
theorem in_X11 : ∀ w ∈ wsX110, w ∈ lw_all := lw_in wsX110 [787, 789, 783, 785] (by decide +kernel) (by decide +kernel)

/-! TroughTreaty$Horse -/
set_option maxRecDepth 100000
def RX12 : String := "TroughTreaty$Horse"
def TX12 : u_T := fun k => match k with
  | 0 => ("TroughTreaty$Placed", "place", "I", false)
  | 1 => ("TroughTreaty$Named", "name", "I", true)
  | 2 => ("TroughTreaty$Horse", "side", "I", false)
  | 3 => ("TroughTreaty$Horse", "thirst", "I", false)
  | _ => ("TroughTreaty$Horse", "pace", "I", false)
def tyX12 : Nat → FieldType := fun k => match k with
  | 0 => .int
  | 1 => .int
  | 2 => .int
  | 3 => .int
  | _ => .int
abbrev wsX120 : List Cond := u_ws RX12 TX12 5
theorem nmX12 : ∀ a, a < 5 → ∀ b, b < 5 → a ≠ b → (TX12 a).2.1 ≠ (TX12 b).2.1 := by decide +kernel
theorem tyX12_ok : ∀ k, k < 5 → parseFieldDescriptor (TX12 k).2.2.1 = some (tyX12 k) := by decide +kernel
abbrev cX12_init : ByteArray := prog_3_method_1_code
def yX12_init : MethodName := ⟨RX12, "<init>", "(I)V"⟩
def dkwX12_init_0 : List UInt8 := [42, 27, 183, 0, 1, 177]
abbrev dktX12_init_0 : List UInt8 := dkwX12_init_0 ++ []
theorem dksX12_init_0 : cX12_init.data.toList.drop 0 = dktX12_init_0 := by decide +kernel
theorem dX12_init_0 : decode cX12_init 0 = .ok (.aload_n 0, 1) := dk_42 (dk_at dksX12_init_0 0 rfl rfl)
theorem dX12_init_1 : decode cX12_init 1 = .ok (.iload_n 1, 1) := dk_27 (dk_at dksX12_init_0 1 rfl rfl)
theorem dX12_init_2 : decode cX12_init 2 = .ok (.invokespecial 1, 3) := dk_183 0 1 (dk_at dksX12_init_0 2 rfl rfl)
theorem dX12_init_5 : decode cX12_init 5 = .ok (.return_, 1) := dk_177 (dk_at dksX12_init_0 5 rfl rfl)
theorem q149 : (Jvm.Cond.initialized "TroughTreaty$Horse") ∈ lw_all := lw_g (lw_at lw_m1 27 rfl) rfl
theorem q776 : (Jvm.Cond.sameField "TroughTreaty$Horse" "TroughTreaty$Placed" "place" "I") ∈ lw_all := lw_g (lw_at lw_m3 174 rfl) rfl
theorem q832 : (Jvm.Cond.selects "TroughTreaty$Horse" ({ cls := "java/lang/Object", name := "getClass", desc := "()Ljava/lang/Class;" } : Jvm.MethodName) ({ cls := "java/lang/Object", name := "getClass", desc := "()Ljava/lang/Class;" } : Jvm.MethodName)) ∈ lw_all := lw_g (lw_at lw_m3 230 rfl) rfl
theorem q867 : (Jvm.Cond.instantiable "TroughTreaty$Horse" (5 : Nat)) ∈ lw_all := lw_g (lw_at lw_m4 25 rfl) rfl
theorem q869 : (Jvm.Cond.instanceMethod ({ cls := "TroughTreaty$Horse", name := "<init>", desc := "(I)V" } : Jvm.MethodName)) ∈ lw_all := lw_g (lw_at lw_m4 27 rfl) rfl
theorem q870 : (Jvm.Cond.code ({ cls := "TroughTreaty$Horse", name := "<init>", desc := "(I)V" } : Jvm.MethodName) prog_3_method_1_code (2 : Nat) (Option.none : Option Jvm.ClassFile.FieldType)) ∈ lw_all := lw_g (lw_at lw_m4 28 rfl) rfl
theorem q871 : (Jvm.Cond.methodLink "TroughTreaty$Horse" (1 : Nat) ({ cls := "TroughTreaty$Placed", name := "<init>", desc := "(I)V" } : Jvm.MethodName)) ∈ lw_all := lw_g (lw_at lw_m4 29 rfl) rfl
theorem q880 : (Jvm.Cond.lays "TroughTreaty$Horse" "TroughTreaty$Horse" "side" "I") ∈ lw_all := lw_g (lw_at lw_m4 38 rfl) rfl
theorem q881 : (Jvm.Cond.soleField "TroughTreaty$Horse" "side") ∈ lw_all := lw_g (lw_at lw_m4 39 rfl) rfl
theorem q882 : (Jvm.Cond.lays "TroughTreaty$Horse" "TroughTreaty$Horse" "thirst" "I") ∈ lw_all := lw_g (lw_at lw_m4 40 rfl) rfl
theorem q883 : (Jvm.Cond.soleField "TroughTreaty$Horse" "thirst") ∈ lw_all := lw_g (lw_at lw_m4 41 rfl) rfl
theorem q884 : (Jvm.Cond.lays "TroughTreaty$Horse" "TroughTreaty$Horse" "pace" "I") ∈ lw_all := lw_g (lw_at lw_m4 42 rfl) rfl
theorem q885 : (Jvm.Cond.soleField "TroughTreaty$Horse" "pace") ∈ lw_all := lw_g (lw_at lw_m4 43 rfl) rfl
theorem q886 : (Jvm.Cond.lays "TroughTreaty$Horse" "TroughTreaty$Placed" "place" "I") ∈ lw_all := lw_g (lw_at lw_m4 44 rfl) rfl
theorem q887 : (Jvm.Cond.laysFinal "TroughTreaty$Horse" "TroughTreaty$Named" "name" "I") ∈ lw_all := lw_g (lw_at lw_m4 45 rfl) rfl
theorem q888 : (Jvm.Cond.superclass "TroughTreaty$Horse" "TroughTreaty$Placed") ∈ lw_all := lw_g (lw_at lw_m4 46 rfl) rfl
theorem q2265 : (Jvm.Cond.castable "TroughTreaty$Horse" "TroughTreaty$Named") ∈ lw_tbl := lw_at lw_m9 223 rfl
theorem q2267 : (Jvm.Cond.castable "TroughTreaty$Horse" "TroughTreaty$Placed") ∈ lw_tbl := lw_at lw_m9 225 rfl
theorem q2282 : (Jvm.Cond.castable "TroughTreaty$Horse" "java/lang/Object") ∈ lw_tbl := lw_at lw_m10 0 rfl
theorem in_X12 : ∀ w ∈ wsX120, w ∈ lw_all := lw_in wsX120 [886, 887, 880, 882, 884] (by decide +kernel) (by decide +kernel)

/-! TroughTreaty$Lap -/
set_option maxRecDepth 100000
def RX13 : String := "TroughTreaty$Lap"
def TX13 : u_T := fun k => match k with
  | 0 => ("TroughTreaty$Lap", "horse", "I", true)
  | 1 => ("TroughTreaty$Lap", "trough", "I", true)
  | _ => ("TroughTreaty$Lap", "hour", "I", true)
def tyX13 : Nat → FieldType := fun k => match k with
  | 0 => .int
  | 1 => .int
  | _ => .int
abbrev wsX130 : List Cond := u_ws RX13 TX13 3
theorem nmX13 : ∀ a, a < 3 → ∀ b, b < 3 → a ≠ b → (TX13 a).2.1 ≠ (TX13 b).2.1 := by decide +kernel
theorem tyX13_ok : ∀ k, k < 3 → parseFieldDescriptor (TX13 k).2.2.1 = some (tyX13 k) := by decide +kernel
abbrev cX13_init : ByteArray := prog_4_method_1_code
def yX13_init : MethodName := ⟨RX13, "<init>", "(III)V"⟩
def dkwX13_init_0 : List UInt8 := [42, 183, 0, 1, 42, 27, 181, 0, 7, 42, 28, 181, 0, 13, 42, 29, 181, 0, 16, 177]
abbrev dktX13_init_0 : List UInt8 := dkwX13_init_0 ++ []
theorem dksX13_init_0 : cX13_init.data.toList.drop 0 = dktX13_init_0 := by decide +kernel
theorem dX13_init_0 : decode cX13_init 0 = .ok (.aload_n 0, 1) := dk_42 (dk_at dksX13_init_0 0 rfl rfl)
theorem dX13_init_1 : decode cX13_init 1 = .ok (.invokespecial 1, 3) := dk_183 0 1 (dk_at dksX13_init_0 1 rfl rfl)
theorem dX13_init_4 : decode cX13_init 4 = .ok (.aload_n 0, 1) := dk_42 (dk_at dksX13_init_0 4 rfl rfl)
theorem dX13_init_5 : decode cX13_init 5 = .ok (.iload_n 1, 1) := dk_27 (dk_at dksX13_init_0 5 rfl rfl)
theorem dX13_init_6 : decode cX13_init 6 = .ok (.putfield 7, 3) := dk_181 0 7 (dk_at dksX13_init_0 6 rfl rfl)
theorem dX13_init_9 : decode cX13_init 9 = .ok (.aload_n 0, 1) := dk_42 (dk_at dksX13_init_0 9 rfl rfl)
theorem dX13_init_10 : decode cX13_init 10 = .ok (.iload_n 2, 1) := dk_28 (dk_at dksX13_init_0 10 rfl rfl)
theorem dX13_init_11 : decode cX13_init 11 = .ok (.putfield 13, 3) := dk_181 0 13 (dk_at dksX13_init_0 11 rfl rfl)
theorem dX13_init_14 : decode cX13_init 14 = .ok (.aload_n 0, 1) := dk_42 (dk_at dksX13_init_0 14 rfl rfl)
theorem dX13_init_15 : decode cX13_init 15 = .ok (.iload_n 3, 1) := dk_29 (dk_at dksX13_init_0 15 rfl rfl)
theorem dX13_init_16 : decode cX13_init 16 = .ok (.putfield 16, 3) := dk_181 0 16 (dk_at dksX13_init_0 16 rfl rfl)
theorem dX13_init_19 : decode cX13_init 19 = .ok (.return_, 1) := dk_177 (dk_at dksX13_init_0 19 rfl rfl)
theorem q150 : (Jvm.Cond.initialized "TroughTreaty$Lap") ∈ lw_all := lw_g (lw_at lw_m1 28 rfl) rfl
theorem q833 : (Jvm.Cond.selects "TroughTreaty$Lap" ({ cls := "java/lang/Object", name := "getClass", desc := "()Ljava/lang/Class;" } : Jvm.MethodName) ({ cls := "java/lang/Object", name := "getClass", desc := "()Ljava/lang/Class;" } : Jvm.MethodName)) ∈ lw_all := lw_g (lw_at lw_m3 231 rfl) rfl
theorem q894 : (Jvm.Cond.instantiable "TroughTreaty$Lap" (3 : Nat)) ∈ lw_all := lw_g (lw_at lw_m4 52 rfl) rfl
theorem q896 : (Jvm.Cond.instanceMethod ({ cls := "TroughTreaty$Lap", name := "<init>", desc := "(III)V" } : Jvm.MethodName)) ∈ lw_all := lw_g (lw_at lw_m4 54 rfl) rfl
theorem q897 : (Jvm.Cond.code ({ cls := "TroughTreaty$Lap", name := "<init>", desc := "(III)V" } : Jvm.MethodName) prog_4_method_1_code (4 : Nat) (Option.none : Option Jvm.ClassFile.FieldType)) ∈ lw_all := lw_g (lw_at lw_m4 55 rfl) rfl
theorem q898 : (Jvm.Cond.methodLink "TroughTreaty$Lap" (1 : Nat) ({ cls := "java/lang/Object", name := "<init>", desc := "()V" } : Jvm.MethodName)) ∈ lw_all := lw_g (lw_at lw_m4 56 rfl) rfl
theorem q899 : (Jvm.Cond.fieldLink "TroughTreaty$Lap" (7 : Nat) "TroughTreaty$Lap" "horse" "I") ∈ lw_all := lw_g (lw_at lw_m4 57 rfl) rfl
theorem q901 : (Jvm.Cond.fieldLink "TroughTreaty$Lap" (13 : Nat) "TroughTreaty$Lap" "trough" "I") ∈ lw_all := lw_g (lw_at lw_m4 59 rfl) rfl
theorem q903 : (Jvm.Cond.fieldLink "TroughTreaty$Lap" (16 : Nat) "TroughTreaty$Lap" "hour" "I") ∈ lw_all := lw_g (lw_at lw_m4 61 rfl) rfl
theorem q905 : (Jvm.Cond.laysFinal "TroughTreaty$Lap" "TroughTreaty$Lap" "horse" "I") ∈ lw_all := lw_g (lw_at lw_m4 63 rfl) rfl
theorem q906 : (Jvm.Cond.soleField "TroughTreaty$Lap" "horse") ∈ lw_all := lw_g (lw_at lw_m4 64 rfl) rfl
theorem q907 : (Jvm.Cond.laysFinal "TroughTreaty$Lap" "TroughTreaty$Lap" "trough" "I") ∈ lw_all := lw_g (lw_at lw_m4 65 rfl) rfl
theorem q908 : (Jvm.Cond.soleField "TroughTreaty$Lap" "trough") ∈ lw_all := lw_g (lw_at lw_m4 66 rfl) rfl
theorem q909 : (Jvm.Cond.laysFinal "TroughTreaty$Lap" "TroughTreaty$Lap" "hour" "I") ∈ lw_all := lw_g (lw_at lw_m4 67 rfl) rfl
theorem q910 : (Jvm.Cond.soleField "TroughTreaty$Lap" "hour") ∈ lw_all := lw_g (lw_at lw_m4 68 rfl) rfl
theorem q911 : (Jvm.Cond.superclass "TroughTreaty$Lap" "java/lang/Object") ∈ lw_all := lw_g (lw_at lw_m4 69 rfl) rfl
theorem q2283 : (Jvm.Cond.castable "TroughTreaty$Lap" "java/lang/Object") ∈ lw_tbl := lw_at lw_m10 1 rfl
theorem in_X13 : ∀ w ∈ wsX130, w ∈ lw_all := lw_in wsX130 [905, 907, 909] (by decide +kernel) (by decide +kernel)

/-! TroughTreaty$Part -/
set_option maxRecDepth 100000
def RX14 : String := "TroughTreaty$Part"
abbrev cX14_init : ByteArray := prog_12_method_1_code
def yX14_init : MethodName := ⟨RX14, "<init>", "()V"⟩
theorem dX14_init_0 : decode cX14_init 0 = .ok (.aload_n 0, 1) := by decide +kernel
theorem dX14_init_1 : decode cX14_init 1 = .ok (.invokespecial 1, 3) := by decide +kernel
theorem dX14_init_4 : decode cX14_init 4 = .ok (.return_, 1) := by decide +kernel
theorem q151 : (Jvm.Cond.initialized "TroughTreaty$Part") ∈ lw_all := lw_g (lw_at lw_m1 29 rfl) rfl
theorem q954 : (Jvm.Cond.instanceMethod ({ cls := "TroughTreaty$Part", name := "<init>", desc := "()V" } : Jvm.MethodName)) ∈ lw_all := lw_g (lw_at lw_m4 112 rfl) rfl
theorem q955 : (Jvm.Cond.code ({ cls := "TroughTreaty$Part", name := "<init>", desc := "()V" } : Jvm.MethodName) prog_12_method_1_code (1 : Nat) (Option.none : Option Jvm.ClassFile.FieldType)) ∈ lw_all := lw_g (lw_at lw_m4 113 rfl) rfl
theorem q956 : (Jvm.Cond.methodLink "TroughTreaty$Part" (1 : Nat) ({ cls := "java/lang/Object", name := "<init>", desc := "()V" } : Jvm.MethodName)) ∈ lw_all := lw_g (lw_at lw_m4 114 rfl) rfl
theorem q1057 : (Jvm.Cond.declares ({ cls := "TroughTreaty$Part", name := "of", desc := "([J)J" } : Jvm.MethodName)) ∈ lw_tbl := lw_at lw_m4 215 rfl
theorem q1058 : (Jvm.Cond.sameMethod "TroughTreaty$Part" "TroughTreaty$Part" "of" "([J)J") ∈ lw_all := lw_g (lw_at lw_m4 216 rfl) rfl
theorem q2271 : (Jvm.Cond.castable "TroughTreaty$Part" "java/lang/Object") ∈ lw_tbl := lw_at lw_m9 229 rfl

/-! TroughTreaty$Number -/
set_option maxRecDepth 100000
def RX15 : String := "TroughTreaty$Number"
def TX15 : u_T := fun k => match k with
  | _ => ("TroughTreaty$Number", "n", "I", true)
def tyX15 : Nat → FieldType := fun k => match k with
  | _ => .int
abbrev wsX150 : List Cond := u_ws RX15 TX15 1
theorem nmX15 : ∀ a, a < 1 → ∀ b, b < 1 → a ≠ b → (TX15 a).2.1 ≠ (TX15 b).2.1 := by decide +kernel
theorem tyX15_ok : ∀ k, k < 1 → parseFieldDescriptor (TX15 k).2.2.1 = some (tyX15 k) := by decide +kernel
abbrev cX15_init : ByteArray := prog_11_method_1_code
def yX15_init : MethodName := ⟨RX15, "<init>", "(I)V"⟩
def dkwX15_init_0 : List UInt8 := [42, 183, 0, 1, 42, 27, 181, 0, 7, 177]
abbrev dktX15_init_0 : List UInt8 := dkwX15_init_0 ++ []
theorem dksX15_init_0 : cX15_init.data.toList.drop 0 = dktX15_init_0 := by decide +kernel
theorem dX15_init_0 : decode cX15_init 0 = .ok (.aload_n 0, 1) := dk_42 (dk_at dksX15_init_0 0 rfl rfl)
theorem dX15_init_1 : decode cX15_init 1 = .ok (.invokespecial 1, 3) := dk_183 0 1 (dk_at dksX15_init_0 1 rfl rfl)
theorem dX15_init_4 : decode cX15_init 4 = .ok (.aload_n 0, 1) := dk_42 (dk_at dksX15_init_0 4 rfl rfl)
theorem dX15_init_5 : decode cX15_init 5 = .ok (.iload_n 1, 1) := dk_27 (dk_at dksX15_init_0 5 rfl rfl)
theorem dX15_init_6 : decode cX15_init 6 = .ok (.putfield 7, 3) := dk_181 0 7 (dk_at dksX15_init_0 6 rfl rfl)
theorem dX15_init_9 : decode cX15_init 9 = .ok (.return_, 1) := dk_177 (dk_at dksX15_init_0 9 rfl rfl)
abbrev cX15_of : ByteArray := prog_11_method_2_code
def yX15_of : MethodName := ⟨RX15, "of", "([J)J"⟩
def dkwX15_of_0 : List UInt8 := [42, 180, 0, 7, 133, 173]
abbrev dktX15_of_0 : List UInt8 := dkwX15_of_0 ++ []
theorem dksX15_of_0 : cX15_of.data.toList.drop 0 = dktX15_of_0 := by decide +kernel
theorem dX15_of_0 : decode cX15_of 0 = .ok (.aload_n 0, 1) := dk_42 (dk_at dksX15_of_0 0 rfl rfl)
theorem dX15_of_1 : decode cX15_of 1 = .ok (.getfield 7, 3) := dk_180 0 7 (dk_at dksX15_of_0 1 rfl rfl)
theorem dX15_of_4 : decode cX15_of 4 = .ok (.i2l, 1) := dk_133 (dk_at dksX15_of_0 4 rfl rfl)
theorem dX15_of_5 : decode cX15_of 5 = .ok (.lreturn, 1) := dk_173 (dk_at dksX15_of_0 5 rfl rfl)
theorem q152 : (Jvm.Cond.initialized "TroughTreaty$Number") ∈ lw_all := lw_g (lw_at lw_m1 30 rfl) rfl
theorem q837 : (Jvm.Cond.selects "TroughTreaty$Number" ({ cls := "java/lang/Object", name := "getClass", desc := "()Ljava/lang/Class;" } : Jvm.MethodName) ({ cls := "java/lang/Object", name := "getClass", desc := "()Ljava/lang/Class;" } : Jvm.MethodName)) ∈ lw_all := lw_g (lw_at lw_m3 235 rfl) rfl
theorem q945 : (Jvm.Cond.instantiable "TroughTreaty$Number" (1 : Nat)) ∈ lw_all := lw_g (lw_at lw_m4 103 rfl) rfl
theorem q951 : (Jvm.Cond.instanceMethod ({ cls := "TroughTreaty$Number", name := "<init>", desc := "(I)V" } : Jvm.MethodName)) ∈ lw_all := lw_g (lw_at lw_m4 109 rfl) rfl
theorem q952 : (Jvm.Cond.code ({ cls := "TroughTreaty$Number", name := "<init>", desc := "(I)V" } : Jvm.MethodName) prog_11_method_1_code (2 : Nat) (Option.none : Option Jvm.ClassFile.FieldType)) ∈ lw_all := lw_g (lw_at lw_m4 110 rfl) rfl
theorem q953 : (Jvm.Cond.methodLinkNest "TroughTreaty$Number" (1 : Nat) ({ cls := "TroughTreaty$Part", name := "<init>", desc := "()V" } : Jvm.MethodName) "TroughTreaty") ∈ lw_tbl := lw_at lw_m4 111 rfl
theorem q957 : (Jvm.Cond.fieldLink "TroughTreaty$Number" (7 : Nat) "TroughTreaty$Number" "n" "I") ∈ lw_all := lw_g (lw_at lw_m4 115 rfl) rfl
theorem q958 : (Jvm.Cond.laysFinal "TroughTreaty$Number" "TroughTreaty$Number" "n" "I") ∈ lw_all := lw_g (lw_at lw_m4 116 rfl) rfl
theorem q959 : (Jvm.Cond.soleField "TroughTreaty$Number" "n") ∈ lw_all := lw_g (lw_at lw_m4 117 rfl) rfl
theorem q960 : (Jvm.Cond.superclass "TroughTreaty$Number" "TroughTreaty$Part") ∈ lw_all := lw_g (lw_at lw_m4 118 rfl) rfl
theorem q1066 : (Jvm.Cond.instanceMethod ({ cls := "TroughTreaty$Number", name := "of", desc := "([J)J" } : Jvm.MethodName)) ∈ lw_all := lw_g (lw_at lw_m4 224 rfl) rfl
theorem q1067 : (Jvm.Cond.code ({ cls := "TroughTreaty$Number", name := "of", desc := "([J)J" } : Jvm.MethodName) prog_11_method_2_code (2 : Nat) (Option.some Jvm.ClassFile.FieldType.long)) ∈ lw_all := lw_g (lw_at lw_m4 225 rfl) rfl
theorem q1089 : (Jvm.Cond.selects "TroughTreaty$Number" ({ cls := "TroughTreaty$Part", name := "of", desc := "([J)J" } : Jvm.MethodName) ({ cls := "TroughTreaty$Number", name := "of", desc := "([J)J" } : Jvm.MethodName)) ∈ lw_all := lw_g (lw_at lw_m5 7 rfl) rfl
theorem q2284 : (Jvm.Cond.castable "TroughTreaty$Number" "java/lang/Object") ∈ lw_tbl := lw_at lw_m10 2 rfl
theorem q2295 : (Jvm.Cond.castable "TroughTreaty$Number" "TroughTreaty$Part") ∈ lw_tbl := lw_at lw_m10 13 rfl
theorem in_X15 : ∀ w ∈ wsX150, w ∈ lw_all := lw_in wsX150 [958] (by decide +kernel) (by decide +kernel)

/-! TroughTreaty$Name -/
set_option maxRecDepth 100000
def RX16 : String := "TroughTreaty$Name"
def TX16 : u_T := fun k => match k with
  | _ => ("TroughTreaty$Name", "which", "I", true)
def tyX16 : Nat → FieldType := fun k => match k with
  | _ => .int
abbrev wsX160 : List Cond := u_ws RX16 TX16 1
theorem nmX16 : ∀ a, a < 1 → ∀ b, b < 1 → a ≠ b → (TX16 a).2.1 ≠ (TX16 b).2.1 := by decide +kernel
theorem tyX16_ok : ∀ k, k < 1 → parseFieldDescriptor (TX16 k).2.2.1 = some (tyX16 k) := by decide +kernel
abbrev cX16_init : ByteArray := prog_7_method_1_code
def yX16_init : MethodName := ⟨RX16, "<init>", "(I)V"⟩
def dkwX16_init_0 : List UInt8 := [42, 183, 0, 1, 42, 27, 181, 0, 7, 177]
abbrev dktX16_init_0 : List UInt8 := dkwX16_init_0 ++ []
theorem dksX16_init_0 : cX16_init.data.toList.drop 0 = dktX16_init_0 := by decide +kernel
theorem dX16_init_0 : decode cX16_init 0 = .ok (.aload_n 0, 1) := dk_42 (dk_at dksX16_init_0 0 rfl rfl)
theorem dX16_init_1 : decode cX16_init 1 = .ok (.invokespecial 1, 3) := dk_183 0 1 (dk_at dksX16_init_0 1 rfl rfl)
theorem dX16_init_4 : decode cX16_init 4 = .ok (.aload_n 0, 1) := dk_42 (dk_at dksX16_init_0 4 rfl rfl)
theorem dX16_init_5 : decode cX16_init 5 = .ok (.iload_n 1, 1) := dk_27 (dk_at dksX16_init_0 5 rfl rfl)
theorem dX16_init_6 : decode cX16_init 6 = .ok (.putfield 7, 3) := dk_181 0 7 (dk_at dksX16_init_0 6 rfl rfl)
theorem dX16_init_9 : decode cX16_init 9 = .ok (.return_, 1) := dk_177 (dk_at dksX16_init_0 9 rfl rfl)
abbrev cX16_of : ByteArray := prog_7_method_2_code
def yX16_of : MethodName := ⟨RX16, "of", "([J)J"⟩
def dkwX16_of_0 : List UInt8 := [43, 42, 180, 0, 7, 47, 173]
abbrev dktX16_of_0 : List UInt8 := dkwX16_of_0 ++ []
theorem dksX16_of_0 : cX16_of.data.toList.drop 0 = dktX16_of_0 := by decide +kernel
theorem dX16_of_0 : decode cX16_of 0 = .ok (.aload_n 1, 1) := dk_43 (dk_at dksX16_of_0 0 rfl rfl)
theorem dX16_of_1 : decode cX16_of 1 = .ok (.aload_n 0, 1) := dk_42 (dk_at dksX16_of_0 1 rfl rfl)
theorem dX16_of_2 : decode cX16_of 2 = .ok (.getfield 7, 3) := dk_180 0 7 (dk_at dksX16_of_0 2 rfl rfl)
theorem dX16_of_5 : decode cX16_of 5 = .ok (.laload, 1) := dk_47 (dk_at dksX16_of_0 5 rfl rfl)
theorem dX16_of_6 : decode cX16_of 6 = .ok (.lreturn, 1) := dk_173 (dk_at dksX16_of_0 6 rfl rfl)
theorem q153 : (Jvm.Cond.initialized "TroughTreaty$Name") ∈ lw_all := lw_g (lw_at lw_m1 31 rfl) rfl
theorem q835 : (Jvm.Cond.selects "TroughTreaty$Name" ({ cls := "java/lang/Object", name := "getClass", desc := "()Ljava/lang/Class;" } : Jvm.MethodName) ({ cls := "java/lang/Object", name := "getClass", desc := "()Ljava/lang/Class;" } : Jvm.MethodName)) ∈ lw_all := lw_g (lw_at lw_m3 233 rfl) rfl
theorem q962 : (Jvm.Cond.instantiable "TroughTreaty$Name" (1 : Nat)) ∈ lw_all := lw_g (lw_at lw_m4 120 rfl) rfl
theorem q964 : (Jvm.Cond.instanceMethod ({ cls := "TroughTreaty$Name", name := "<init>", desc := "(I)V" } : Jvm.MethodName)) ∈ lw_all := lw_g (lw_at lw_m4 122 rfl) rfl
theorem q965 : (Jvm.Cond.code ({ cls := "TroughTreaty$Name", name := "<init>", desc := "(I)V" } : Jvm.MethodName) prog_7_method_1_code (2 : Nat) (Option.none : Option Jvm.ClassFile.FieldType)) ∈ lw_all := lw_g (lw_at lw_m4 123 rfl) rfl
theorem q966 : (Jvm.Cond.methodLinkNest "TroughTreaty$Name" (1 : Nat) ({ cls := "TroughTreaty$Part", name := "<init>", desc := "()V" } : Jvm.MethodName) "TroughTreaty") ∈ lw_tbl := lw_at lw_m4 124 rfl
theorem q967 : (Jvm.Cond.fieldLink "TroughTreaty$Name" (7 : Nat) "TroughTreaty$Name" "which" "I") ∈ lw_all := lw_g (lw_at lw_m4 125 rfl) rfl
theorem q968 : (Jvm.Cond.laysFinal "TroughTreaty$Name" "TroughTreaty$Name" "which" "I") ∈ lw_all := lw_g (lw_at lw_m4 126 rfl) rfl
theorem q969 : (Jvm.Cond.soleField "TroughTreaty$Name" "which") ∈ lw_all := lw_g (lw_at lw_m4 127 rfl) rfl
theorem q970 : (Jvm.Cond.superclass "TroughTreaty$Name" "TroughTreaty$Part") ∈ lw_all := lw_g (lw_at lw_m4 128 rfl) rfl
theorem q1059 : (Jvm.Cond.selects "TroughTreaty$Name" ({ cls := "TroughTreaty$Part", name := "of", desc := "([J)J" } : Jvm.MethodName) ({ cls := "TroughTreaty$Name", name := "of", desc := "([J)J" } : Jvm.MethodName)) ∈ lw_all := lw_g (lw_at lw_m4 217 rfl) rfl
theorem q1060 : (Jvm.Cond.instanceMethod ({ cls := "TroughTreaty$Name", name := "of", desc := "([J)J" } : Jvm.MethodName)) ∈ lw_all := lw_g (lw_at lw_m4 218 rfl) rfl
theorem q1061 : (Jvm.Cond.code ({ cls := "TroughTreaty$Name", name := "of", desc := "([J)J" } : Jvm.MethodName) prog_7_method_2_code (2 : Nat) (Option.some Jvm.ClassFile.FieldType.long)) ∈ lw_all := lw_g (lw_at lw_m4 219 rfl) rfl
theorem q2285 : (Jvm.Cond.castable "TroughTreaty$Name" "java/lang/Object") ∈ lw_tbl := lw_at lw_m10 3 rfl
theorem q2296 : (Jvm.Cond.castable "TroughTreaty$Name" "TroughTreaty$Part") ∈ lw_tbl := lw_at lw_m10 14 rfl
theorem in_X16 : ∀ w ∈ wsX160, w ∈ lw_all := lw_in wsX160 [968] (by decide +kernel) (by decide +kernel)

/-! TroughTreaty$Not -/
set_option maxRecDepth 100000
def RX17 : String := "TroughTreaty$Not"
def TX17 : u_T := fun k => match k with
  | _ => ("TroughTreaty$Not", "a", "LTroughTreaty$Part;", true)
def tyX17 : Nat → FieldType := fun k => match k with
  | _ => .object "TroughTreaty$Part"
abbrev wsX170 : List Cond := u_ws RX17 TX17 1
theorem nmX17 : ∀ a, a < 1 → ∀ b, b < 1 → a ≠ b → (TX17 a).2.1 ≠ (TX17 b).2.1 := by decide +kernel
theorem tyX17_ok : ∀ k, k < 1 → parseFieldDescriptor (TX17 k).2.2.1 = some (tyX17 k) := by decide +kernel
abbrev cX17_init : ByteArray := prog_10_method_1_code
def yX17_init : MethodName := ⟨RX17, "<init>", "(LTroughTreaty$Part;)V"⟩
def dkwX17_init_0 : List UInt8 := [42, 183, 0, 1, 42, 43, 181, 0, 7, 177]
abbrev dktX17_init_0 : List UInt8 := dkwX17_init_0 ++ []
theorem dksX17_init_0 : cX17_init.data.toList.drop 0 = dktX17_init_0 := by decide +kernel
theorem dX17_init_0 : decode cX17_init 0 = .ok (.aload_n 0, 1) := dk_42 (dk_at dksX17_init_0 0 rfl rfl)
theorem dX17_init_1 : decode cX17_init 1 = .ok (.invokespecial 1, 3) := dk_183 0 1 (dk_at dksX17_init_0 1 rfl rfl)
theorem dX17_init_4 : decode cX17_init 4 = .ok (.aload_n 0, 1) := dk_42 (dk_at dksX17_init_0 4 rfl rfl)
theorem dX17_init_5 : decode cX17_init 5 = .ok (.aload_n 1, 1) := dk_43 (dk_at dksX17_init_0 5 rfl rfl)
theorem dX17_init_6 : decode cX17_init 6 = .ok (.putfield 7, 3) := dk_181 0 7 (dk_at dksX17_init_0 6 rfl rfl)
theorem dX17_init_9 : decode cX17_init 9 = .ok (.return_, 1) := dk_177 (dk_at dksX17_init_0 9 rfl rfl)
abbrev cX17_of : ByteArray := prog_10_method_2_code
def yX17_of : MethodName := ⟨RX17, "of", "([J)J"⟩
def dkwX17_of_0 : List UInt8 := [42, 180, 0, 7, 43, 182, 0, 13, 9, 148, 154, 0, 7, 10, 167, 0, 4, 9, 173]
abbrev dktX17_of_0 : List UInt8 := dkwX17_of_0 ++ []
theorem dksX17_of_0 : cX17_of.data.toList.drop 0 = dktX17_of_0 := by decide +kernel
theorem dX17_of_0 : decode cX17_of 0 = .ok (.aload_n 0, 1) := dk_42 (dk_at dksX17_of_0 0 rfl rfl)
theorem dX17_of_1 : decode cX17_of 1 = .ok (.getfield 7, 3) := dk_180 0 7 (dk_at dksX17_of_0 1 rfl rfl)
theorem dX17_of_4 : decode cX17_of 4 = .ok (.aload_n 1, 1) := dk_43 (dk_at dksX17_of_0 4 rfl rfl)
theorem dX17_of_5 : decode cX17_of 5 = .ok (.invokevirtual 13, 3) := dk_182 0 13 (dk_at dksX17_of_0 5 rfl rfl)
theorem dX17_of_8 : decode cX17_of 8 = .ok (.lconst 0, 1) := dk_9 (dk_at dksX17_of_0 8 rfl rfl)
theorem dX17_of_9 : decode cX17_of 9 = .ok (.lcmp, 1) := dk_148 (dk_at dksX17_of_0 9 rfl rfl)
theorem dX17_of_10 : decode cX17_of 10 = .ok (.ifCond .ne 7, 3) := dk_154 0 7 (dk_at dksX17_of_0 10 rfl rfl)
theorem dX17_of_13 : decode cX17_of 13 = .ok (.lconst 1, 1) := dk_10 (dk_at dksX17_of_0 13 rfl rfl)
theorem dX17_of_14 : decode cX17_of 14 = .ok (.goto 4, 3) := dk_167 0 4 (dk_at dksX17_of_0 14 rfl rfl)
theorem dX17_of_17 : decode cX17_of 17 = .ok (.lconst 0, 1) := dk_9 (dk_at dksX17_of_0 17 rfl rfl)
theorem dX17_of_18 : decode cX17_of 18 = .ok (.lreturn, 1) := dk_173 (dk_at dksX17_of_0 18 rfl rfl)
theorem q154 : (Jvm.Cond.initialized "TroughTreaty$Not") ∈ lw_all := lw_g (lw_at lw_m1 32 rfl) rfl
theorem q836 : (Jvm.Cond.selects "TroughTreaty$Not" ({ cls := "java/lang/Object", name := "getClass", desc := "()Ljava/lang/Class;" } : Jvm.MethodName) ({ cls := "java/lang/Object", name := "getClass", desc := "()Ljava/lang/Class;" } : Jvm.MethodName)) ∈ lw_all := lw_g (lw_at lw_m3 234 rfl) rfl
theorem q977 : (Jvm.Cond.instanceMethod ({ cls := "TroughTreaty$Not", name := "<init>", desc := "(LTroughTreaty$Part;)V" } : Jvm.MethodName)) ∈ lw_all := lw_g (lw_at lw_m4 135 rfl) rfl
theorem q978 : (Jvm.Cond.code ({ cls := "TroughTreaty$Not", name := "<init>", desc := "(LTroughTreaty$Part;)V" } : Jvm.MethodName) prog_10_method_1_code (2 : Nat) (Option.none : Option Jvm.ClassFile.FieldType)) ∈ lw_all := lw_g (lw_at lw_m4 136 rfl) rfl
theorem q979 : (Jvm.Cond.methodLinkNest "TroughTreaty$Not" (1 : Nat) ({ cls := "TroughTreaty$Part", name := "<init>", desc := "()V" } : Jvm.MethodName) "TroughTreaty") ∈ lw_tbl := lw_at lw_m4 137 rfl
theorem q982 : (Jvm.Cond.fieldLink "TroughTreaty$Not" (7 : Nat) "TroughTreaty$Not" "a" "LTroughTreaty$Part;") ∈ lw_all := lw_g (lw_at lw_m4 140 rfl) rfl
theorem q990 : (Jvm.Cond.soleField "TroughTreaty$Not" "a") ∈ lw_all := lw_g (lw_at lw_m4 148 rfl) rfl
theorem q993 : (Jvm.Cond.instantiable "TroughTreaty$Not" (1 : Nat)) ∈ lw_all := lw_g (lw_at lw_m4 151 rfl) rfl
theorem q995 : (Jvm.Cond.laysFinal "TroughTreaty$Not" "TroughTreaty$Not" "a" "LTroughTreaty$Part;") ∈ lw_all := lw_g (lw_at lw_m4 153 rfl) rfl
theorem q996 : (Jvm.Cond.superclass "TroughTreaty$Not" "TroughTreaty$Part") ∈ lw_all := lw_g (lw_at lw_m4 154 rfl) rfl
theorem q1062 : (Jvm.Cond.selects "TroughTreaty$Not" ({ cls := "TroughTreaty$Part", name := "of", desc := "([J)J" } : Jvm.MethodName) ({ cls := "TroughTreaty$Not", name := "of", desc := "([J)J" } : Jvm.MethodName)) ∈ lw_all := lw_g (lw_at lw_m4 220 rfl) rfl
theorem q1063 : (Jvm.Cond.instanceMethod ({ cls := "TroughTreaty$Not", name := "of", desc := "([J)J" } : Jvm.MethodName)) ∈ lw_all := lw_g (lw_at lw_m4 221 rfl) rfl
theorem q1064 : (Jvm.Cond.code ({ cls := "TroughTreaty$Not", name := "of", desc := "([J)J" } : Jvm.MethodName) prog_10_method_2_code (2 : Nat) (Option.some Jvm.ClassFile.FieldType.long)) ∈ lw_all := lw_g (lw_at lw_m4 222 rfl) rfl
theorem q1065 : (Jvm.Cond.methodLink "TroughTreaty$Not" (13 : Nat) ({ cls := "TroughTreaty$Part", name := "of", desc := "([J)J" } : Jvm.MethodName)) ∈ lw_all := lw_g (lw_at lw_m4 223 rfl) rfl
theorem q2287 : (Jvm.Cond.castable "TroughTreaty$Not" "java/lang/Object") ∈ lw_tbl := lw_at lw_m10 5 rfl
theorem q2298 : (Jvm.Cond.castable "TroughTreaty$Not" "TroughTreaty$Part") ∈ lw_tbl := lw_at lw_m10 16 rfl
theorem in_X17 : ∀ w ∈ wsX170, w ∈ lw_all := lw_in wsX170 [995] (by decide +kernel) (by decide +kernel)

/-! TroughTreaty$Two -/
set_option maxRecDepth 100000
def RX18 : String := "TroughTreaty$Two"
def TX18 : u_T := fun k => match k with
  | 0 => ("TroughTreaty$Not", "a", "LTroughTreaty$Part;", true)
  | 1 => ("TroughTreaty$Two", "sign", "I", true)
  | _ => ("TroughTreaty$Two", "b", "LTroughTreaty$Part;", true)
def tyX18 : Nat → FieldType := fun k => match k with
  | 0 => .object "TroughTreaty$Part"
  | 1 => .int
  | _ => .object "TroughTreaty$Part"
abbrev wsX180 : List Cond := u_ws RX18 TX18 3
theorem nmX18 : ∀ a, a < 3 → ∀ b, b < 3 → a ≠ b → (TX18 a).2.1 ≠ (TX18 b).2.1 := by decide +kernel
theorem tyX18_ok : ∀ k, k < 3 → parseFieldDescriptor (TX18 k).2.2.1 = some (tyX18 k) := by decide +kernel
abbrev cX18_init : ByteArray := prog_21_method_1_code
def yX18_init : MethodName := ⟨RX18, "<init>", "(ILTroughTreaty$Part;LTroughTreaty$Part;)V"⟩
def dkwX18_init_0 : List UInt8 := [42, 44, 183, 0, 3, 42, 27, 181, 0, 9, 42, 45, 181, 0, 15, 177]
abbrev dktX18_init_0 : List UInt8 := dkwX18_init_0 ++ []
theorem dksX18_init_0 : cX18_init.data.toList.drop 0 = dktX18_init_0 := by decide +kernel
theorem dX18_init_0 : decode cX18_init 0 = .ok (.aload_n 0, 1) := dk_42 (dk_at dksX18_init_0 0 rfl rfl)
theorem dX18_init_1 : decode cX18_init 1 = .ok (.aload_n 2, 1) := dk_44 (dk_at dksX18_init_0 1 rfl rfl)
theorem dX18_init_2 : decode cX18_init 2 = .ok (.invokespecial 3, 3) := dk_183 0 3 (dk_at dksX18_init_0 2 rfl rfl)
theorem dX18_init_5 : decode cX18_init 5 = .ok (.aload_n 0, 1) := dk_42 (dk_at dksX18_init_0 5 rfl rfl)
theorem dX18_init_6 : decode cX18_init 6 = .ok (.iload_n 1, 1) := dk_27 (dk_at dksX18_init_0 6 rfl rfl)
theorem dX18_init_7 : decode cX18_init 7 = .ok (.putfield 9, 3) := dk_181 0 9 (dk_at dksX18_init_0 7 rfl rfl)
theorem dX18_init_10 : decode cX18_init 10 = .ok (.aload_n 0, 1) := dk_42 (dk_at dksX18_init_0 10 rfl rfl)
theorem dX18_init_11 : decode cX18_init 11 = .ok (.aload_n 3, 1) := dk_45 (dk_at dksX18_init_0 11 rfl rfl)
theorem dX18_init_12 : decode cX18_init 12 = .ok (.putfield 15, 3) := dk_181 0 15 (dk_at dksX18_init_0 12 rfl rfl)
theorem dX18_init_15 : decode cX18_init 15 = .ok (.return_, 1) := dk_177 (dk_at dksX18_init_0 15 rfl rfl)
abbrev cX18_of : ByteArray := prog_21_method_3_code
def yX18_of : MethodName := ⟨RX18, "of", "([J)J"⟩
def dkwX18_of_9 : List UInt8 := [153, 0, 7, 4, 167, 0, 4, 3, 184, 0, 40, 173]
abbrev dktX18_of_9 : List UInt8 := dkwX18_of_9 ++ []
def dkwX18_of_8 : List UInt8 := [9, 148, 153, 0, 7, 4, 167, 0, 4, 3, 184, 0, 40, 173, 32, 9, 148, 154, 0, 10, 22, 4, 9, 148]
abbrev dktX18_of_8 : List UInt8 := dkwX18_of_8 ++ dktX18_of_9
def dkwX18_of_7 : List UInt8 := [32, 22, 4, 148, 153, 0, 7, 4, 167, 0, 4, 3, 184, 0, 40, 173, 32, 9, 148, 153, 0, 14, 22, 4]
abbrev dktX18_of_7 : List UInt8 := dkwX18_of_7 ++ dktX18_of_8
def dkwX18_of_6 : List UInt8 := [167, 0, 4, 3, 184, 0, 40, 173, 32, 22, 4, 148, 155, 0, 7, 4, 167, 0, 4, 3, 184, 0, 40, 173]
abbrev dktX18_of_6 : List UInt8 := dkwX18_of_6 ++ dktX18_of_7
def dkwX18_of_5 : List UInt8 := [32, 22, 4, 148, 154, 0, 7, 4, 167, 0, 4, 3, 184, 0, 40, 173, 32, 22, 4, 148, 157, 0, 7, 4]
abbrev dktX18_of_5 : List UInt8 := dkwX18_of_5 ++ dktX18_of_6
def dkwX18_of_4 : List UInt8 := [167, 0, 4, 3, 184, 0, 40, 173, 32, 22, 4, 148, 158, 0, 7, 4, 167, 0, 4, 3, 184, 0, 40, 173]
abbrev dktX18_of_4 : List UInt8 := dkwX18_of_4 ++ dktX18_of_5
def dkwX18_of_3 : List UInt8 := [22, 4, 9, 148, 154, 0, 7, 178, 0, 36, 191, 32, 22, 4, 109, 173, 32, 22, 4, 148, 156, 0, 7, 4]
abbrev dktX18_of_3 : List UInt8 := dkwX18_of_3 ++ dktX18_of_4
def dkwX18_of_2 : List UInt8 := [32, 22, 4, 97, 184, 0, 28, 173, 32, 22, 4, 101, 184, 0, 28, 173, 32, 22, 4, 184, 0, 32, 173]
abbrev dktX18_of_2 : List UInt8 := dkwX18_of_2 ++ dktX18_of_3
def dkwX18_of_1 : List UInt8 := [171, 0, 0, 0, 254, 0, 0, 0, 11, 0, 0, 0, 11, 0, 0, 0, 232, 0, 0, 0, 42, 0, 0, 0, 113, 0, 0, 0, 43, 0, 0, 0, 97, 0, 0, 0, 45, 0, 0, 0, 105, 0, 0, 0, 47, 0, 0, 0, 120, 0, 0, 0, 60, 0, 0, 0, 136, 0, 0, 0, 61, 0, 0, 0, 168, 0, 0, 0, 62, 0, 0, 0, 152, 0, 0, 1, 0, 0, 0, 0, 184, 0, 0, 1, 1, 0, 0, 0, 200, 0, 0, 1, 2, 0, 0, 0, 216]
abbrev dktX18_of_1 : List UInt8 := dkwX18_of_1 ++ dktX18_of_2
def dkwX18_of_0 : List UInt8 := [42, 180, 0, 19, 43, 182, 0, 22, 65, 42, 180, 0, 15, 43, 182, 0, 22, 55, 4, 42, 180, 0, 9]
abbrev dktX18_of_0 : List UInt8 := dkwX18_of_0 ++ dktX18_of_1
theorem dksX18_of_0 : cX18_of.data.toList.drop 0 = dktX18_of_0 := by decide +kernel
theorem dksX18_of_1 : cX18_of.data.toList.drop 23 = dktX18_of_1 := dk_seg dksX18_of_0 23 rfl rfl
theorem dksX18_of_2 : cX18_of.data.toList.drop 120 = dktX18_of_2 := dk_seg dksX18_of_1 97 rfl rfl
theorem dksX18_of_3 : cX18_of.data.toList.drop 143 = dktX18_of_3 := dk_seg dksX18_of_2 23 rfl rfl
theorem dksX18_of_4 : cX18_of.data.toList.drop 167 = dktX18_of_4 := dk_seg dksX18_of_3 24 rfl rfl
theorem dksX18_of_5 : cX18_of.data.toList.drop 191 = dktX18_of_5 := dk_seg dksX18_of_4 24 rfl rfl
theorem dksX18_of_6 : cX18_of.data.toList.drop 215 = dktX18_of_6 := dk_seg dksX18_of_5 24 rfl rfl
theorem dksX18_of_7 : cX18_of.data.toList.drop 239 = dktX18_of_7 := dk_seg dksX18_of_6 24 rfl rfl
theorem dksX18_of_8 : cX18_of.data.toList.drop 263 = dktX18_of_8 := dk_seg dksX18_of_7 24 rfl rfl
theorem dksX18_of_9 : cX18_of.data.toList.drop 287 = dktX18_of_9 := dk_seg dksX18_of_8 24 rfl rfl
theorem dX18_of_0 : decode cX18_of 0 = .ok (.aload_n 0, 1) := dk_42 (dk_at dksX18_of_0 0 rfl rfl)
theorem dX18_of_1 : decode cX18_of 1 = .ok (.getfield 19, 3) := dk_180 0 19 (dk_at dksX18_of_0 1 rfl rfl)
theorem dX18_of_4 : decode cX18_of 4 = .ok (.aload_n 1, 1) := dk_43 (dk_at dksX18_of_0 4 rfl rfl)
theorem dX18_of_5 : decode cX18_of 5 = .ok (.invokevirtual 22, 3) := dk_182 0 22 (dk_at dksX18_of_0 5 rfl rfl)
theorem dX18_of_8 : decode cX18_of 8 = .ok (.lstore_n 2, 1) := dk_65 (dk_at dksX18_of_0 8 rfl rfl)
theorem dX18_of_9 : decode cX18_of 9 = .ok (.aload_n 0, 1) := dk_42 (dk_at dksX18_of_0 9 rfl rfl)
theorem dX18_of_10 : decode cX18_of 10 = .ok (.getfield 15, 3) := dk_180 0 15 (dk_at dksX18_of_0 10 rfl rfl)
theorem dX18_of_13 : decode cX18_of 13 = .ok (.aload_n 1, 1) := dk_43 (dk_at dksX18_of_0 13 rfl rfl)
theorem dX18_of_14 : decode cX18_of 14 = .ok (.invokevirtual 22, 3) := dk_182 0 22 (dk_at dksX18_of_0 14 rfl rfl)
theorem dX18_of_17 : decode cX18_of 17 = .ok (.lstore 4, 2) := dk_55 4 (dk_at dksX18_of_0 17 rfl rfl)
theorem dX18_of_19 : decode cX18_of 19 = .ok (.aload_n 0, 1) := dk_42 (dk_at dksX18_of_0 19 rfl rfl)
theorem dX18_of_20 : decode cX18_of 20 = .ok (.getfield 9, 3) := dk_180 0 9 (dk_at dksX18_of_0 20 rfl rfl)
theorem dX18_of_23 : decode cX18_of 23 = .ok (.lookupswitch 254 #[(11, 232), (42, 113), (43, 97), (45, 105), (47, 120), (60, 136), (61, 168), (62, 152), (256, 184), (257, 200), (258, 216)], 97) := by decide +kernel
theorem dX18_of_120 : decode cX18_of 120 = .ok (.lload_n 2, 1) := dk_32 (dk_at dksX18_of_2 0 rfl rfl)
theorem dX18_of_121 : decode cX18_of 121 = .ok (.lload 4, 2) := dk_22 4 (dk_at dksX18_of_2 1 rfl rfl)
theorem dX18_of_123 : decode cX18_of 123 = .ok (.ladd, 1) := dk_97 (dk_at dksX18_of_2 3 rfl rfl)
theorem dX18_of_124 : decode cX18_of 124 = .ok (.invokestatic 28, 3) := dk_184 0 28 (dk_at dksX18_of_2 4 rfl rfl)
theorem dX18_of_127 : decode cX18_of 127 = .ok (.lreturn, 1) := dk_173 (dk_at dksX18_of_2 7 rfl rfl)
theorem dX18_of_128 : decode cX18_of 128 = .ok (.lload_n 2, 1) := dk_32 (dk_at dksX18_of_2 8 rfl rfl)
theorem dX18_of_129 : decode cX18_of 129 = .ok (.lload 4, 2) := dk_22 4 (dk_at dksX18_of_2 9 rfl rfl)
theorem dX18_of_131 : decode cX18_of 131 = .ok (.lsub, 1) := dk_101 (dk_at dksX18_of_2 11 rfl rfl)
theorem dX18_of_132 : decode cX18_of 132 = .ok (.invokestatic 28, 3) := dk_184 0 28 (dk_at dksX18_of_2 12 rfl rfl)
theorem dX18_of_135 : decode cX18_of 135 = .ok (.lreturn, 1) := dk_173 (dk_at dksX18_of_2 15 rfl rfl)
theorem dX18_of_136 : decode cX18_of 136 = .ok (.lload_n 2, 1) := dk_32 (dk_at dksX18_of_2 16 rfl rfl)
theorem dX18_of_137 : decode cX18_of 137 = .ok (.lload 4, 2) := dk_22 4 (dk_at dksX18_of_2 17 rfl rfl)
theorem dX18_of_139 : decode cX18_of 139 = .ok (.invokestatic 32, 3) := dk_184 0 32 (dk_at dksX18_of_2 19 rfl rfl)
theorem dX18_of_142 : decode cX18_of 142 = .ok (.lreturn, 1) := dk_173 (dk_at dksX18_of_2 22 rfl rfl)
theorem dX18_of_143 : decode cX18_of 143 = .ok (.lload 4, 2) := dk_22 4 (dk_at dksX18_of_3 0 rfl rfl)
theorem dX18_of_145 : decode cX18_of 145 = .ok (.lconst 0, 1) := dk_9 (dk_at dksX18_of_3 2 rfl rfl)
theorem dX18_of_146 : decode cX18_of 146 = .ok (.lcmp, 1) := dk_148 (dk_at dksX18_of_3 3 rfl rfl)
theorem dX18_of_147 : decode cX18_of 147 = .ok (.ifCond .ne 7, 3) := dk_154 0 7 (dk_at dksX18_of_3 4 rfl rfl)
theorem dX18_of_150 : decode cX18_of 150 = .ok (.getstatic 36, 3) := dk_178 0 36 (dk_at dksX18_of_3 7 rfl rfl)
theorem dX18_of_153 : decode cX18_of 153 = .ok (.athrow, 1) := dk_191 (dk_at dksX18_of_3 10 rfl rfl)
theorem dX18_of_154 : decode cX18_of 154 = .ok (.lload_n 2, 1) := dk_32 (dk_at dksX18_of_3 11 rfl rfl)
theorem dX18_of_155 : decode cX18_of 155 = .ok (.lload 4, 2) := dk_22 4 (dk_at dksX18_of_3 12 rfl rfl)
theorem dX18_of_157 : decode cX18_of 157 = .ok (.ldiv, 1) := dk_109 (dk_at dksX18_of_3 14 rfl rfl)
theorem dX18_of_158 : decode cX18_of 158 = .ok (.lreturn, 1) := dk_173 (dk_at dksX18_of_3 15 rfl rfl)
theorem dX18_of_159 : decode cX18_of 159 = .ok (.lload_n 2, 1) := dk_32 (dk_at dksX18_of_3 16 rfl rfl)
theorem dX18_of_160 : decode cX18_of 160 = .ok (.lload 4, 2) := dk_22 4 (dk_at dksX18_of_3 17 rfl rfl)
theorem dX18_of_162 : decode cX18_of 162 = .ok (.lcmp, 1) := dk_148 (dk_at dksX18_of_3 19 rfl rfl)
theorem dX18_of_163 : decode cX18_of 163 = .ok (.ifCond .ge 7, 3) := dk_156 0 7 (dk_at dksX18_of_3 20 rfl rfl)
theorem dX18_of_166 : decode cX18_of 166 = .ok (.iconst 1, 1) := dk_4 (dk_at dksX18_of_3 23 rfl rfl)
theorem dX18_of_167 : decode cX18_of 167 = .ok (.goto 4, 3) := dk_167 0 4 (dk_at dksX18_of_4 0 rfl rfl)
theorem dX18_of_170 : decode cX18_of 170 = .ok (.iconst 0, 1) := dk_3 (dk_at dksX18_of_4 3 rfl rfl)
theorem dX18_of_171 : decode cX18_of 171 = .ok (.invokestatic 40, 3) := dk_184 0 40 (dk_at dksX18_of_4 4 rfl rfl)
theorem dX18_of_174 : decode cX18_of 174 = .ok (.lreturn, 1) := dk_173 (dk_at dksX18_of_4 7 rfl rfl)
theorem dX18_of_175 : decode cX18_of 175 = .ok (.lload_n 2, 1) := dk_32 (dk_at dksX18_of_4 8 rfl rfl)
theorem dX18_of_176 : decode cX18_of 176 = .ok (.lload 4, 2) := dk_22 4 (dk_at dksX18_of_4 9 rfl rfl)
theorem dX18_of_178 : decode cX18_of 178 = .ok (.lcmp, 1) := dk_148 (dk_at dksX18_of_4 11 rfl rfl)
theorem dX18_of_179 : decode cX18_of 179 = .ok (.ifCond .le 7, 3) := dk_158 0 7 (dk_at dksX18_of_4 12 rfl rfl)
theorem dX18_of_182 : decode cX18_of 182 = .ok (.iconst 1, 1) := dk_4 (dk_at dksX18_of_4 15 rfl rfl)
theorem dX18_of_183 : decode cX18_of 183 = .ok (.goto 4, 3) := dk_167 0 4 (dk_at dksX18_of_4 16 rfl rfl)
theorem dX18_of_186 : decode cX18_of 186 = .ok (.iconst 0, 1) := dk_3 (dk_at dksX18_of_4 19 rfl rfl)
theorem dX18_of_187 : decode cX18_of 187 = .ok (.invokestatic 40, 3) := dk_184 0 40 (dk_at dksX18_of_4 20 rfl rfl)
theorem dX18_of_190 : decode cX18_of 190 = .ok (.lreturn, 1) := dk_173 (dk_at dksX18_of_4 23 rfl rfl)
theorem dX18_of_191 : decode cX18_of 191 = .ok (.lload_n 2, 1) := dk_32 (dk_at dksX18_of_5 0 rfl rfl)
theorem dX18_of_192 : decode cX18_of 192 = .ok (.lload 4, 2) := dk_22 4 (dk_at dksX18_of_5 1 rfl rfl)
theorem dX18_of_194 : decode cX18_of 194 = .ok (.lcmp, 1) := dk_148 (dk_at dksX18_of_5 3 rfl rfl)
theorem dX18_of_195 : decode cX18_of 195 = .ok (.ifCond .ne 7, 3) := dk_154 0 7 (dk_at dksX18_of_5 4 rfl rfl)
theorem dX18_of_198 : decode cX18_of 198 = .ok (.iconst 1, 1) := dk_4 (dk_at dksX18_of_5 7 rfl rfl)
theorem dX18_of_199 : decode cX18_of 199 = .ok (.goto 4, 3) := dk_167 0 4 (dk_at dksX18_of_5 8 rfl rfl)
theorem dX18_of_202 : decode cX18_of 202 = .ok (.iconst 0, 1) := dk_3 (dk_at dksX18_of_5 11 rfl rfl)
theorem dX18_of_203 : decode cX18_of 203 = .ok (.invokestatic 40, 3) := dk_184 0 40 (dk_at dksX18_of_5 12 rfl rfl)
theorem dX18_of_206 : decode cX18_of 206 = .ok (.lreturn, 1) := dk_173 (dk_at dksX18_of_5 15 rfl rfl)
theorem dX18_of_207 : decode cX18_of 207 = .ok (.lload_n 2, 1) := dk_32 (dk_at dksX18_of_5 16 rfl rfl)
theorem dX18_of_208 : decode cX18_of 208 = .ok (.lload 4, 2) := dk_22 4 (dk_at dksX18_of_5 17 rfl rfl)
theorem dX18_of_210 : decode cX18_of 210 = .ok (.lcmp, 1) := dk_148 (dk_at dksX18_of_5 19 rfl rfl)
theorem dX18_of_211 : decode cX18_of 211 = .ok (.ifCond .gt 7, 3) := dk_157 0 7 (dk_at dksX18_of_5 20 rfl rfl)
theorem dX18_of_214 : decode cX18_of 214 = .ok (.iconst 1, 1) := dk_4 (dk_at dksX18_of_5 23 rfl rfl)
theorem dX18_of_215 : decode cX18_of 215 = .ok (.goto 4, 3) := dk_167 0 4 (dk_at dksX18_of_6 0 rfl rfl)
theorem dX18_of_218 : decode cX18_of 218 = .ok (.iconst 0, 1) := dk_3 (dk_at dksX18_of_6 3 rfl rfl)
theorem dX18_of_219 : decode cX18_of 219 = .ok (.invokestatic 40, 3) := dk_184 0 40 (dk_at dksX18_of_6 4 rfl rfl)
theorem dX18_of_222 : decode cX18_of 222 = .ok (.lreturn, 1) := dk_173 (dk_at dksX18_of_6 7 rfl rfl)
theorem dX18_of_223 : decode cX18_of 223 = .ok (.lload_n 2, 1) := dk_32 (dk_at dksX18_of_6 8 rfl rfl)
theorem dX18_of_224 : decode cX18_of 224 = .ok (.lload 4, 2) := dk_22 4 (dk_at dksX18_of_6 9 rfl rfl)
theorem dX18_of_226 : decode cX18_of 226 = .ok (.lcmp, 1) := dk_148 (dk_at dksX18_of_6 11 rfl rfl)
theorem dX18_of_227 : decode cX18_of 227 = .ok (.ifCond .lt 7, 3) := dk_155 0 7 (dk_at dksX18_of_6 12 rfl rfl)
theorem dX18_of_230 : decode cX18_of 230 = .ok (.iconst 1, 1) := dk_4 (dk_at dksX18_of_6 15 rfl rfl)
theorem dX18_of_231 : decode cX18_of 231 = .ok (.goto 4, 3) := dk_167 0 4 (dk_at dksX18_of_6 16 rfl rfl)
theorem dX18_of_234 : decode cX18_of 234 = .ok (.iconst 0, 1) := dk_3 (dk_at dksX18_of_6 19 rfl rfl)
theorem dX18_of_235 : decode cX18_of 235 = .ok (.invokestatic 40, 3) := dk_184 0 40 (dk_at dksX18_of_6 20 rfl rfl)
theorem dX18_of_238 : decode cX18_of 238 = .ok (.lreturn, 1) := dk_173 (dk_at dksX18_of_6 23 rfl rfl)
theorem dX18_of_239 : decode cX18_of 239 = .ok (.lload_n 2, 1) := dk_32 (dk_at dksX18_of_7 0 rfl rfl)
theorem dX18_of_240 : decode cX18_of 240 = .ok (.lload 4, 2) := dk_22 4 (dk_at dksX18_of_7 1 rfl rfl)
theorem dX18_of_242 : decode cX18_of 242 = .ok (.lcmp, 1) := dk_148 (dk_at dksX18_of_7 3 rfl rfl)
theorem dX18_of_243 : decode cX18_of 243 = .ok (.ifCond .eq 7, 3) := dk_153 0 7 (dk_at dksX18_of_7 4 rfl rfl)
theorem dX18_of_246 : decode cX18_of 246 = .ok (.iconst 1, 1) := dk_4 (dk_at dksX18_of_7 7 rfl rfl)
theorem dX18_of_247 : decode cX18_of 247 = .ok (.goto 4, 3) := dk_167 0 4 (dk_at dksX18_of_7 8 rfl rfl)
theorem dX18_of_250 : decode cX18_of 250 = .ok (.iconst 0, 1) := dk_3 (dk_at dksX18_of_7 11 rfl rfl)
theorem dX18_of_251 : decode cX18_of 251 = .ok (.invokestatic 40, 3) := dk_184 0 40 (dk_at dksX18_of_7 12 rfl rfl)
theorem dX18_of_254 : decode cX18_of 254 = .ok (.lreturn, 1) := dk_173 (dk_at dksX18_of_7 15 rfl rfl)
theorem dX18_of_255 : decode cX18_of 255 = .ok (.lload_n 2, 1) := dk_32 (dk_at dksX18_of_7 16 rfl rfl)
theorem dX18_of_256 : decode cX18_of 256 = .ok (.lconst 0, 1) := dk_9 (dk_at dksX18_of_7 17 rfl rfl)
theorem dX18_of_257 : decode cX18_of 257 = .ok (.lcmp, 1) := dk_148 (dk_at dksX18_of_7 18 rfl rfl)
theorem dX18_of_258 : decode cX18_of 258 = .ok (.ifCond .eq 14, 3) := dk_153 0 14 (dk_at dksX18_of_7 19 rfl rfl)
theorem dX18_of_261 : decode cX18_of 261 = .ok (.lload 4, 2) := dk_22 4 (dk_at dksX18_of_7 22 rfl rfl)
theorem dX18_of_263 : decode cX18_of 263 = .ok (.lconst 0, 1) := dk_9 (dk_at dksX18_of_8 0 rfl rfl)
theorem dX18_of_264 : decode cX18_of 264 = .ok (.lcmp, 1) := dk_148 (dk_at dksX18_of_8 1 rfl rfl)
theorem dX18_of_265 : decode cX18_of 265 = .ok (.ifCond .eq 7, 3) := dk_153 0 7 (dk_at dksX18_of_8 2 rfl rfl)
theorem dX18_of_268 : decode cX18_of 268 = .ok (.iconst 1, 1) := dk_4 (dk_at dksX18_of_8 5 rfl rfl)
theorem dX18_of_269 : decode cX18_of 269 = .ok (.goto 4, 3) := dk_167 0 4 (dk_at dksX18_of_8 6 rfl rfl)
theorem dX18_of_272 : decode cX18_of 272 = .ok (.iconst 0, 1) := dk_3 (dk_at dksX18_of_8 9 rfl rfl)
theorem dX18_of_273 : decode cX18_of 273 = .ok (.invokestatic 40, 3) := dk_184 0 40 (dk_at dksX18_of_8 10 rfl rfl)
theorem dX18_of_276 : decode cX18_of 276 = .ok (.lreturn, 1) := dk_173 (dk_at dksX18_of_8 13 rfl rfl)
theorem dX18_of_277 : decode cX18_of 277 = .ok (.lload_n 2, 1) := dk_32 (dk_at dksX18_of_8 14 rfl rfl)
theorem dX18_of_278 : decode cX18_of 278 = .ok (.lconst 0, 1) := dk_9 (dk_at dksX18_of_8 15 rfl rfl)
theorem dX18_of_279 : decode cX18_of 279 = .ok (.lcmp, 1) := dk_148 (dk_at dksX18_of_8 16 rfl rfl)
theorem dX18_of_280 : decode cX18_of 280 = .ok (.ifCond .ne 10, 3) := dk_154 0 10 (dk_at dksX18_of_8 17 rfl rfl)
theorem dX18_of_283 : decode cX18_of 283 = .ok (.lload 4, 2) := dk_22 4 (dk_at dksX18_of_8 20 rfl rfl)
theorem dX18_of_285 : decode cX18_of 285 = .ok (.lconst 0, 1) := dk_9 (dk_at dksX18_of_8 22 rfl rfl)
theorem dX18_of_286 : decode cX18_of 286 = .ok (.lcmp, 1) := dk_148 (dk_at dksX18_of_8 23 rfl rfl)
theorem dX18_of_287 : decode cX18_of 287 = .ok (.ifCond .eq 7, 3) := dk_153 0 7 (dk_at dksX18_of_9 0 rfl rfl)
theorem dX18_of_290 : decode cX18_of 290 = .ok (.iconst 1, 1) := dk_4 (dk_at dksX18_of_9 3 rfl rfl)
theorem dX18_of_291 : decode cX18_of 291 = .ok (.goto 4, 3) := dk_167 0 4 (dk_at dksX18_of_9 4 rfl rfl)
theorem dX18_of_294 : decode cX18_of 294 = .ok (.iconst 0, 1) := dk_3 (dk_at dksX18_of_9 7 rfl rfl)
theorem dX18_of_295 : decode cX18_of 295 = .ok (.invokestatic 40, 3) := dk_184 0 40 (dk_at dksX18_of_9 8 rfl rfl)
theorem dX18_of_298 : decode cX18_of 298 = .ok (.lreturn, 1) := dk_173 (dk_at dksX18_of_9 11 rfl rfl)
abbrev cX18_times : ByteArray := prog_21_method_4_code
def yX18_times : MethodName := ⟨RX18, "times", "(JJ)J"⟩
def dkwX18_times_1 : List UInt8 := [178, 0, 36, 191, 30, 32, 105, 173]
abbrev dktX18_times_1 : List UInt8 := dkwX18_times_1 ++ []
def dkwX18_times_0 : List UInt8 := [30, 9, 148, 153, 0, 23, 32, 184, 0, 44, 20, 0, 49, 30, 184, 0, 44, 109, 148, 158, 0, 7]
abbrev dktX18_times_0 : List UInt8 := dkwX18_times_0 ++ dktX18_times_1
theorem dksX18_times_0 : cX18_times.data.toList.drop 0 = dktX18_times_0 := by decide +kernel
theorem dksX18_times_1 : cX18_times.data.toList.drop 22 = dktX18_times_1 := dk_seg dksX18_times_0 22 rfl rfl
theorem dX18_times_0 : decode cX18_times 0 = .ok (.lload_n 0, 1) := dk_30 (dk_at dksX18_times_0 0 rfl rfl)
theorem dX18_times_1 : decode cX18_times 1 = .ok (.lconst 0, 1) := dk_9 (dk_at dksX18_times_0 1 rfl rfl)
theorem dX18_times_2 : decode cX18_times 2 = .ok (.lcmp, 1) := dk_148 (dk_at dksX18_times_0 2 rfl rfl)
theorem dX18_times_3 : decode cX18_times 3 = .ok (.ifCond .eq 23, 3) := dk_153 0 23 (dk_at dksX18_times_0 3 rfl rfl)
theorem dX18_times_6 : decode cX18_times 6 = .ok (.lload_n 2, 1) := dk_32 (dk_at dksX18_times_0 6 rfl rfl)
theorem dX18_times_7 : decode cX18_times 7 = .ok (.invokestatic 44, 3) := dk_184 0 44 (dk_at dksX18_times_0 7 rfl rfl)
theorem dX18_times_10 : decode cX18_times 10 = .ok (.ldc2_w 49, 3) := dk_20 0 49 (dk_at dksX18_times_0 10 rfl rfl)
theorem dX18_times_13 : decode cX18_times 13 = .ok (.lload_n 0, 1) := dk_30 (dk_at dksX18_times_0 13 rfl rfl)
theorem dX18_times_14 : decode cX18_times 14 = .ok (.invokestatic 44, 3) := dk_184 0 44 (dk_at dksX18_times_0 14 rfl rfl)
theorem dX18_times_17 : decode cX18_times 17 = .ok (.ldiv, 1) := dk_109 (dk_at dksX18_times_0 17 rfl rfl)
theorem dX18_times_18 : decode cX18_times 18 = .ok (.lcmp, 1) := dk_148 (dk_at dksX18_times_0 18 rfl rfl)
theorem dX18_times_19 : decode cX18_times 19 = .ok (.ifCond .le 7, 3) := dk_158 0 7 (dk_at dksX18_times_0 19 rfl rfl)
theorem dX18_times_22 : decode cX18_times 22 = .ok (.getstatic 36, 3) := dk_178 0 36 (dk_at dksX18_times_1 0 rfl rfl)
theorem dX18_times_25 : decode cX18_times 25 = .ok (.athrow, 1) := dk_191 (dk_at dksX18_times_1 3 rfl rfl)
theorem dX18_times_26 : decode cX18_times 26 = .ok (.lload_n 0, 1) := dk_30 (dk_at dksX18_times_1 4 rfl rfl)
theorem dX18_times_27 : decode cX18_times 27 = .ok (.lload_n 2, 1) := dk_32 (dk_at dksX18_times_1 5 rfl rfl)
theorem dX18_times_28 : decode cX18_times 28 = .ok (.lmul, 1) := dk_105 (dk_at dksX18_times_1 6 rfl rfl)
theorem dX18_times_29 : decode cX18_times 29 = .ok (.lreturn, 1) := dk_173 (dk_at dksX18_times_1 7 rfl rfl)
abbrev cX18_is : ByteArray := prog_21_method_2_code
def yX18_is : MethodName := ⟨RX18, "is", "(Z)J"⟩
def dkwX18_is_0 : List UInt8 := [26, 153, 0, 7, 10, 167, 0, 4, 9, 173]
abbrev dktX18_is_0 : List UInt8 := dkwX18_is_0 ++ []
theorem dksX18_is_0 : cX18_is.data.toList.drop 0 = dktX18_is_0 := by decide +kernel
theorem dX18_is_0 : decode cX18_is 0 = .ok (.iload_n 0, 1) := dk_26 (dk_at dksX18_is_0 0 rfl rfl)
theorem dX18_is_1 : decode cX18_is 1 = .ok (.ifCond .eq 7, 3) := dk_153 0 7 (dk_at dksX18_is_0 1 rfl rfl)
theorem dX18_is_4 : decode cX18_is 4 = .ok (.lconst 1, 1) := dk_10 (dk_at dksX18_is_0 4 rfl rfl)
theorem dX18_is_5 : decode cX18_is 5 = .ok (.goto 4, 3) := dk_167 0 4 (dk_at dksX18_is_0 5 rfl rfl)
theorem dX18_is_8 : decode cX18_is 8 = .ok (.lconst 0, 1) := dk_9 (dk_at dksX18_is_0 8 rfl rfl)
theorem dX18_is_9 : decode cX18_is 9 = .ok (.lreturn, 1) := dk_173 (dk_at dksX18_is_0 9 rfl rfl)
theorem q155 : (Jvm.Cond.initialized "TroughTreaty$Two") ∈ lw_all := lw_g (lw_at lw_m1 33 rfl) rfl
theorem q845 : (Jvm.Cond.selects "TroughTreaty$Two" ({ cls := "java/lang/Object", name := "getClass", desc := "()Ljava/lang/Class;" } : Jvm.MethodName) ({ cls := "java/lang/Object", name := "getClass", desc := "()Ljava/lang/Class;" } : Jvm.MethodName)) ∈ lw_all := lw_g (lw_at lw_m4 3 rfl) rfl
theorem q972 : (Jvm.Cond.instantiable "TroughTreaty$Two" (3 : Nat)) ∈ lw_all := lw_g (lw_at lw_m4 130 rfl) rfl
theorem q974 : (Jvm.Cond.instanceMethod ({ cls := "TroughTreaty$Two", name := "<init>", desc := "(ILTroughTreaty$Part;LTroughTreaty$Part;)V" } : Jvm.MethodName)) ∈ lw_all := lw_g (lw_at lw_m4 132 rfl) rfl
theorem q975 : (Jvm.Cond.code ({ cls := "TroughTreaty$Two", name := "<init>", desc := "(ILTroughTreaty$Part;LTroughTreaty$Part;)V" } : Jvm.MethodName) prog_21_method_1_code (4 : Nat) (Option.none : Option Jvm.ClassFile.FieldType)) ∈ lw_all := lw_g (lw_at lw_m4 133 rfl) rfl
theorem q976 : (Jvm.Cond.methodLink "TroughTreaty$Two" (3 : Nat) ({ cls := "TroughTreaty$Not", name := "<init>", desc := "(LTroughTreaty$Part;)V" } : Jvm.MethodName)) ∈ lw_all := lw_g (lw_at lw_m4 134 rfl) rfl
theorem q980 : (Jvm.Cond.fieldLink "TroughTreaty$Two" (9 : Nat) "TroughTreaty$Two" "sign" "I") ∈ lw_all := lw_g (lw_at lw_m4 138 rfl) rfl
theorem q981 : (Jvm.Cond.fieldLink "TroughTreaty$Two" (15 : Nat) "TroughTreaty$Two" "b" "LTroughTreaty$Part;") ∈ lw_all := lw_g (lw_at lw_m4 139 rfl) rfl
theorem q983 : (Jvm.Cond.fieldLink "TroughTreaty$Two" (19 : Nat) "TroughTreaty$Two" "a" "LTroughTreaty$Part;") ∈ lw_all := lw_g (lw_at lw_m4 141 rfl) rfl
theorem q984 : (Jvm.Cond.sameField "TroughTreaty$Two" "TroughTreaty$Not" "a" "LTroughTreaty$Part;") ∈ lw_all := lw_g (lw_at lw_m4 142 rfl) rfl
theorem q985 : (Jvm.Cond.laysFinal "TroughTreaty$Two" "TroughTreaty$Two" "sign" "I") ∈ lw_all := lw_g (lw_at lw_m4 143 rfl) rfl
theorem q986 : (Jvm.Cond.soleField "TroughTreaty$Two" "sign") ∈ lw_all := lw_g (lw_at lw_m4 144 rfl) rfl
theorem q987 : (Jvm.Cond.laysFinal "TroughTreaty$Two" "TroughTreaty$Two" "b" "LTroughTreaty$Part;") ∈ lw_all := lw_g (lw_at lw_m4 145 rfl) rfl
theorem q988 : (Jvm.Cond.soleField "TroughTreaty$Two" "b") ∈ lw_all := lw_g (lw_at lw_m4 146 rfl) rfl
theorem q989 : (Jvm.Cond.laysFinal "TroughTreaty$Two" "TroughTreaty$Not" "a" "LTroughTreaty$Part;") ∈ lw_all := lw_g (lw_at lw_m4 147 rfl) rfl
theorem q991 : (Jvm.Cond.superclass "TroughTreaty$Two" "TroughTreaty$Not") ∈ lw_all := lw_g (lw_at lw_m4 149 rfl) rfl
theorem q1068 : (Jvm.Cond.instanceMethod ({ cls := "TroughTreaty$Two", name := "of", desc := "([J)J" } : Jvm.MethodName)) ∈ lw_all := lw_g (lw_at lw_m4 226 rfl) rfl
theorem q1069 : (Jvm.Cond.code ({ cls := "TroughTreaty$Two", name := "of", desc := "([J)J" } : Jvm.MethodName) prog_21_method_3_code (6 : Nat) (Option.some Jvm.ClassFile.FieldType.long)) ∈ lw_all := lw_g (lw_at lw_m4 227 rfl) rfl
theorem q1070 : (Jvm.Cond.methodLink "TroughTreaty$Two" (22 : Nat) ({ cls := "TroughTreaty$Part", name := "of", desc := "([J)J" } : Jvm.MethodName)) ∈ lw_all := lw_g (lw_at lw_m4 228 rfl) rfl
theorem q1071 : (Jvm.Cond.methodLinkNest "TroughTreaty$Two" (28 : Nat) ({ cls := "TroughTreaty", name := "sure", desc := "(J)J" } : Jvm.MethodName) "TroughTreaty") ∈ lw_tbl := lw_at lw_m4 229 rfl
theorem q1078 : (Jvm.Cond.methodLink "TroughTreaty$Two" (32 : Nat) ({ cls := "TroughTreaty$Two", name := "times", desc := "(JJ)J" } : Jvm.MethodName)) ∈ lw_all := lw_g (lw_at lw_m4 236 rfl) rfl
theorem q1079 : (Jvm.Cond.static ({ cls := "TroughTreaty$Two", name := "times", desc := "(JJ)J" } : Jvm.MethodName)) ∈ lw_all := lw_g (lw_at lw_m4 237 rfl) rfl
theorem q1080 : (Jvm.Cond.code ({ cls := "TroughTreaty$Two", name := "times", desc := "(JJ)J" } : Jvm.MethodName) prog_21_method_4_code (4 : Nat) (Option.some Jvm.ClassFile.FieldType.long)) ∈ lw_all := lw_g (lw_at lw_m4 238 rfl) rfl
theorem q1081 : (Jvm.Cond.methodLink "TroughTreaty$Two" (44 : Nat) ({ cls := "java/lang/Math", name := "abs", desc := "(J)J" } : Jvm.MethodName)) ∈ lw_all := lw_g (lw_at lw_m4 239 rfl) rfl
theorem q1084 : (Jvm.Cond.constantLong "TroughTreaty$Two" (49 : Nat) (1000000000000 : Int64)) ∈ lw_all := lw_g (lw_at lw_m5 2 rfl) rfl
theorem q1085 : (Jvm.Cond.fieldLinkNest "TroughTreaty$Two" (36 : Nat) "TroughTreaty" "TROUBLE" "LTroughTreaty$Trouble;" "TroughTreaty") ∈ lw_tbl := lw_at lw_m5 3 rfl
theorem q1086 : (Jvm.Cond.methodLink "TroughTreaty$Two" (40 : Nat) ({ cls := "TroughTreaty$Two", name := "is", desc := "(Z)J" } : Jvm.MethodName)) ∈ lw_all := lw_g (lw_at lw_m5 4 rfl) rfl
theorem q1087 : (Jvm.Cond.static ({ cls := "TroughTreaty$Two", name := "is", desc := "(Z)J" } : Jvm.MethodName)) ∈ lw_all := lw_g (lw_at lw_m5 5 rfl) rfl
theorem q1088 : (Jvm.Cond.code ({ cls := "TroughTreaty$Two", name := "is", desc := "(Z)J" } : Jvm.MethodName) prog_21_method_2_code (1 : Nat) (Option.some Jvm.ClassFile.FieldType.long)) ∈ lw_all := lw_g (lw_at lw_m5 6 rfl) rfl
theorem q1090 : (Jvm.Cond.selects "TroughTreaty$Two" ({ cls := "TroughTreaty$Part", name := "of", desc := "([J)J" } : Jvm.MethodName) ({ cls := "TroughTreaty$Two", name := "of", desc := "([J)J" } : Jvm.MethodName)) ∈ lw_all := lw_g (lw_at lw_m5 8 rfl) rfl
theorem q2286 : (Jvm.Cond.castable "TroughTreaty$Two" "java/lang/Object") ∈ lw_tbl := lw_at lw_m10 4 rfl
theorem q2297 : (Jvm.Cond.castable "TroughTreaty$Two" "TroughTreaty$Part") ∈ lw_tbl := lw_at lw_m10 15 rfl
theorem in_X18 : ∀ w ∈ wsX180, w ∈ lw_all := lw_in wsX180 [989, 985, 987] (by decide +kernel) (by decide +kernel)

/-! TroughTreaty$Leaf -/
set_option maxRecDepth 100000
def RX19 : String := "TroughTreaty$Leaf"
abbrev cX19_init : ByteArray := prog_6_method_1_code
def yX19_init : MethodName := ⟨RX19, "<init>", "()V"⟩
theorem dX19_init_0 : decode cX19_init 0 = .ok (.aload_n 0, 1) := by decide +kernel
theorem dX19_init_1 : decode cX19_init 1 = .ok (.invokespecial 3, 3) := by decide +kernel
theorem dX19_init_4 : decode cX19_init 4 = .ok (.return_, 1) := by decide +kernel
abbrev cX19_struck : ByteArray := prog_6_method_2_code
def yX19_struck : MethodName := ⟨RX19, "struck", "()I"⟩
theorem dX19_struck_0 : decode cX19_struck 0 = .ok (.iconst (-1), 1) := by decide +kernel
theorem dX19_struck_1 : decode cX19_struck 1 = .ok (.ireturn, 1) := by decide +kernel
abbrev cX19_hours : ByteArray := prog_6_method_3_code
def yX19_hours : MethodName := ⟨RX19, "hours", "()I"⟩
theorem dX19_hours_0 : decode cX19_hours 0 = .ok (.iconst (-1), 1) := by decide +kernel
theorem dX19_hours_1 : decode cX19_hours 1 = .ok (.ireturn, 1) := by decide +kernel
abbrev cX19_isSo : ByteArray := prog_6_method_4_code
def yX19_isSo : MethodName := ⟨RX19, "isSo", "(LTroughTreaty$State;)Z"⟩
theorem dX19_isSo_0 : decode cX19_isSo 0 = .ok (.iconst 1, 1) := by decide +kernel
theorem dX19_isSo_1 : decode cX19_isSo 1 = .ok (.ireturn, 1) := by decide +kernel
theorem q161 : (Jvm.Cond.initialized "TroughTreaty$Leaf") ∈ lw_all := lw_g (lw_at lw_m1 39 rfl) rfl
theorem q1347 : (Jvm.Cond.instanceMethod ({ cls := "TroughTreaty$Leaf", name := "<init>", desc := "()V" } : Jvm.MethodName)) ∈ lw_all := lw_g (lw_at lw_m6 25 rfl) rfl
theorem q1348 : (Jvm.Cond.code ({ cls := "TroughTreaty$Leaf", name := "<init>", desc := "()V" } : Jvm.MethodName) prog_6_method_1_code (1 : Nat) (Option.none : Option Jvm.ClassFile.FieldType)) ∈ lw_all := lw_g (lw_at lw_m6 26 rfl) rfl
theorem q1349 : (Jvm.Cond.methodLink "TroughTreaty$Leaf" (3 : Nat) ({ cls := "java/lang/Object", name := "<init>", desc := "()V" } : Jvm.MethodName)) ∈ lw_all := lw_g (lw_at lw_m6 27 rfl) rfl
theorem q1396 : (Jvm.Cond.instanceMethod ({ cls := "TroughTreaty$Leaf", name := "struck", desc := "()I" } : Jvm.MethodName)) ∈ lw_all := lw_g (lw_at lw_m6 74 rfl) rfl
theorem q1397 : (Jvm.Cond.sameMethod "TroughTreaty$Leaf" "TroughTreaty$Leaf" "struck" "()I") ∈ lw_all := lw_g (lw_at lw_m6 75 rfl) rfl
theorem q1402 : (Jvm.Cond.code ({ cls := "TroughTreaty$Leaf", name := "struck", desc := "()I" } : Jvm.MethodName) prog_6_method_2_code (1 : Nat) (Option.some Jvm.ClassFile.FieldType.int)) ∈ lw_all := lw_g (lw_at lw_m6 80 rfl) rfl
theorem q1404 : (Jvm.Cond.instanceMethod ({ cls := "TroughTreaty$Leaf", name := "hours", desc := "()I" } : Jvm.MethodName)) ∈ lw_all := lw_g (lw_at lw_m6 82 rfl) rfl
theorem q1405 : (Jvm.Cond.sameMethod "TroughTreaty$Leaf" "TroughTreaty$Leaf" "hours" "()I") ∈ lw_all := lw_g (lw_at lw_m6 83 rfl) rfl
theorem q1410 : (Jvm.Cond.code ({ cls := "TroughTreaty$Leaf", name := "hours", desc := "()I" } : Jvm.MethodName) prog_6_method_3_code (1 : Nat) (Option.some Jvm.ClassFile.FieldType.int)) ∈ lw_all := lw_g (lw_at lw_m6 88 rfl) rfl
theorem q1416 : (Jvm.Cond.instanceMethod ({ cls := "TroughTreaty$Leaf", name := "isSo", desc := "(LTroughTreaty$State;)Z" } : Jvm.MethodName)) ∈ lw_all := lw_g (lw_at lw_m6 94 rfl) rfl
theorem q1417 : (Jvm.Cond.sameMethod "TroughTreaty$Leaf" "TroughTreaty$Leaf" "isSo" "(LTroughTreaty$State;)Z") ∈ lw_all := lw_g (lw_at lw_m6 95 rfl) rfl
theorem q1422 : (Jvm.Cond.code ({ cls := "TroughTreaty$Leaf", name := "isSo", desc := "(LTroughTreaty$State;)Z" } : Jvm.MethodName) prog_6_method_4_code (2 : Nat) (Option.some Jvm.ClassFile.FieldType.boolean)) ∈ lw_all := lw_g (lw_at lw_m6 100 rfl) rfl

/-! TroughTreaty$Sight -/
set_option maxRecDepth 100000
def RX20 : String := "TroughTreaty$Sight"
def TX20 : u_T := fun k => match k with
  | 0 => ("TroughTreaty$Sight", "hours", "I", true)
  | 1 => ("TroughTreaty$Sight", "trough", "I", true)
  | 2 => ("TroughTreaty$Sight", "water", "I", true)
  | _ => ("TroughTreaty$Sight", "atLeast", "Z", true)
def tyX20 : Nat → FieldType := fun k => match k with
  | 0 => .int
  | 1 => .int
  | 2 => .int
  | _ => .boolean
abbrev wsX200 : List Cond := u_ws RX20 TX20 4
theorem nmX20 : ∀ a, a < 4 → ∀ b, b < 4 → a ≠ b → (TX20 a).2.1 ≠ (TX20 b).2.1 := by decide +kernel
theorem tyX20_ok : ∀ k, k < 4 → parseFieldDescriptor (TX20 k).2.2.1 = some (tyX20 k) := by decide +kernel
abbrev cX20_init : ByteArray := prog_16_method_1_code
def yX20_init : MethodName := ⟨RX20, "<init>", "(IIIZ)V"⟩
def dkwX20_init_1 : List UInt8 := [181, 0, 19, 177]
abbrev dktX20_init_1 : List UInt8 := dkwX20_init_1 ++ []
def dkwX20_init_0 : List UInt8 := [42, 183, 0, 1, 42, 27, 181, 0, 7, 42, 28, 181, 0, 13, 42, 29, 181, 0, 16, 42, 21, 4]
abbrev dktX20_init_0 : List UInt8 := dkwX20_init_0 ++ dktX20_init_1
theorem dksX20_init_0 : cX20_init.data.toList.drop 0 = dktX20_init_0 := by decide +kernel
theorem dksX20_init_1 : cX20_init.data.toList.drop 22 = dktX20_init_1 := dk_seg dksX20_init_0 22 rfl rfl
theorem dX20_init_0 : decode cX20_init 0 = .ok (.aload_n 0, 1) := dk_42 (dk_at dksX20_init_0 0 rfl rfl)
theorem dX20_init_1 : decode cX20_init 1 = .ok (.invokespecial 1, 3) := dk_183 0 1 (dk_at dksX20_init_0 1 rfl rfl)
theorem dX20_init_4 : decode cX20_init 4 = .ok (.aload_n 0, 1) := dk_42 (dk_at dksX20_init_0 4 rfl rfl)
theorem dX20_init_5 : decode cX20_init 5 = .ok (.iload_n 1, 1) := dk_27 (dk_at dksX20_init_0 5 rfl rfl)
theorem dX20_init_6 : decode cX20_init 6 = .ok (.putfield 7, 3) := dk_181 0 7 (dk_at dksX20_init_0 6 rfl rfl)
theorem dX20_init_9 : decode cX20_init 9 = .ok (.aload_n 0, 1) := dk_42 (dk_at dksX20_init_0 9 rfl rfl)
theorem dX20_init_10 : decode cX20_init 10 = .ok (.iload_n 2, 1) := dk_28 (dk_at dksX20_init_0 10 rfl rfl)
theorem dX20_init_11 : decode cX20_init 11 = .ok (.putfield 13, 3) := dk_181 0 13 (dk_at dksX20_init_0 11 rfl rfl)
theorem dX20_init_14 : decode cX20_init 14 = .ok (.aload_n 0, 1) := dk_42 (dk_at dksX20_init_0 14 rfl rfl)
theorem dX20_init_15 : decode cX20_init 15 = .ok (.iload_n 3, 1) := dk_29 (dk_at dksX20_init_0 15 rfl rfl)
theorem dX20_init_16 : decode cX20_init 16 = .ok (.putfield 16, 3) := dk_181 0 16 (dk_at dksX20_init_0 16 rfl rfl)
theorem dX20_init_19 : decode cX20_init 19 = .ok (.aload_n 0, 1) := dk_42 (dk_at dksX20_init_0 19 rfl rfl)
theorem dX20_init_20 : decode cX20_init 20 = .ok (.iload 4, 2) := dk_21 4 (dk_at dksX20_init_0 20 rfl rfl)
theorem dX20_init_22 : decode cX20_init 22 = .ok (.putfield 19, 3) := dk_181 0 19 (dk_at dksX20_init_1 0 rfl rfl)
theorem dX20_init_25 : decode cX20_init 25 = .ok (.return_, 1) := dk_177 (dk_at dksX20_init_1 3 rfl rfl)
abbrev cX20_hours : ByteArray := prog_16_method_2_code
def yX20_hours : MethodName := ⟨RX20, "hours", "()I"⟩
theorem dX20_hours_0 : decode cX20_hours 0 = .ok (.aload_n 0, 1) := by decide +kernel
theorem dX20_hours_1 : decode cX20_hours 1 = .ok (.getfield 7, 3) := by decide +kernel
theorem dX20_hours_4 : decode cX20_hours 4 = .ok (.ireturn, 1) := by decide +kernel
abbrev cX20_isSo : ByteArray := prog_16_method_3_code
def yX20_isSo : MethodName := ⟨RX20, "isSo", "(LTroughTreaty$State;)Z"⟩
def dkwX20_isSo_1 : List UInt8 := [180, 0, 19, 160, 0, 7, 4, 167, 0, 4, 3, 172]
abbrev dktX20_isSo_1 : List UInt8 := dkwX20_isSo_1 ++ []
def dkwX20_isSo_0 : List UInt8 := [43, 180, 0, 23, 42, 180, 0, 13, 46, 42, 180, 0, 16, 161, 0, 7, 4, 167, 0, 4, 3, 42]
abbrev dktX20_isSo_0 : List UInt8 := dkwX20_isSo_0 ++ dktX20_isSo_1
theorem dksX20_isSo_0 : cX20_isSo.data.toList.drop 0 = dktX20_isSo_0 := by decide +kernel
theorem dksX20_isSo_1 : cX20_isSo.data.toList.drop 22 = dktX20_isSo_1 := dk_seg dksX20_isSo_0 22 rfl rfl
theorem dX20_isSo_0 : decode cX20_isSo 0 = .ok (.aload_n 1, 1) := dk_43 (dk_at dksX20_isSo_0 0 rfl rfl)
theorem dX20_isSo_1 : decode cX20_isSo 1 = .ok (.getfield 23, 3) := dk_180 0 23 (dk_at dksX20_isSo_0 1 rfl rfl)
theorem dX20_isSo_4 : decode cX20_isSo 4 = .ok (.aload_n 0, 1) := dk_42 (dk_at dksX20_isSo_0 4 rfl rfl)
theorem dX20_isSo_5 : decode cX20_isSo 5 = .ok (.getfield 13, 3) := dk_180 0 13 (dk_at dksX20_isSo_0 5 rfl rfl)
theorem dX20_isSo_8 : decode cX20_isSo 8 = .ok (.iaload, 1) := dk_46 (dk_at dksX20_isSo_0 8 rfl rfl)
theorem dX20_isSo_9 : decode cX20_isSo 9 = .ok (.aload_n 0, 1) := dk_42 (dk_at dksX20_isSo_0 9 rfl rfl)
theorem dX20_isSo_10 : decode cX20_isSo 10 = .ok (.getfield 16, 3) := dk_180 0 16 (dk_at dksX20_isSo_0 10 rfl rfl)
theorem dX20_isSo_13 : decode cX20_isSo 13 = .ok (.if_icmp .lt 7, 3) := dk_161 0 7 (dk_at dksX20_isSo_0 13 rfl rfl)
theorem dX20_isSo_16 : decode cX20_isSo 16 = .ok (.iconst 1, 1) := dk_4 (dk_at dksX20_isSo_0 16 rfl rfl)
theorem dX20_isSo_17 : decode cX20_isSo 17 = .ok (.goto 4, 3) := dk_167 0 4 (dk_at dksX20_isSo_0 17 rfl rfl)
theorem dX20_isSo_20 : decode cX20_isSo 20 = .ok (.iconst 0, 1) := dk_3 (dk_at dksX20_isSo_0 20 rfl rfl)
theorem dX20_isSo_21 : decode cX20_isSo 21 = .ok (.aload_n 0, 1) := dk_42 (dk_at dksX20_isSo_0 21 rfl rfl)
theorem dX20_isSo_22 : decode cX20_isSo 22 = .ok (.getfield 19, 3) := dk_180 0 19 (dk_at dksX20_isSo_1 0 rfl rfl)
theorem dX20_isSo_25 : decode cX20_isSo 25 = .ok (.if_icmp .ne 7, 3) := dk_160 0 7 (dk_at dksX20_isSo_1 3 rfl rfl)
theorem dX20_isSo_28 : decode cX20_isSo 28 = .ok (.iconst 1, 1) := dk_4 (dk_at dksX20_isSo_1 6 rfl rfl)
theorem dX20_isSo_29 : decode cX20_isSo 29 = .ok (.goto 4, 3) := dk_167 0 4 (dk_at dksX20_isSo_1 7 rfl rfl)
theorem dX20_isSo_32 : decode cX20_isSo 32 = .ok (.iconst 0, 1) := dk_3 (dk_at dksX20_isSo_1 10 rfl rfl)
theorem dX20_isSo_33 : decode cX20_isSo 33 = .ok (.ireturn, 1) := dk_172 (dk_at dksX20_isSo_1 11 rfl rfl)
theorem q162 : (Jvm.Cond.initialized "TroughTreaty$Sight") ∈ lw_all := lw_g (lw_at lw_m1 40 rfl) rfl
theorem q322 : (Jvm.Cond.fieldLinkNest "TroughTreaty$Sight" (23 : Nat) "TroughTreaty$State" "water" "[I" "TroughTreaty") ∈ lw_tbl := lw_at lw_m1 200 rfl
theorem q840 : (Jvm.Cond.selects "TroughTreaty$Sight" ({ cls := "java/lang/Object", name := "getClass", desc := "()Ljava/lang/Class;" } : Jvm.MethodName) ({ cls := "java/lang/Object", name := "getClass", desc := "()Ljava/lang/Class;" } : Jvm.MethodName)) ∈ lw_all := lw_g (lw_at lw_m3 238 rfl) rfl
theorem q1342 : (Jvm.Cond.instantiable "TroughTreaty$Sight" (4 : Nat)) ∈ lw_all := lw_g (lw_at lw_m6 20 rfl) rfl
theorem q1344 : (Jvm.Cond.instanceMethod ({ cls := "TroughTreaty$Sight", name := "<init>", desc := "(IIIZ)V" } : Jvm.MethodName)) ∈ lw_all := lw_g (lw_at lw_m6 22 rfl) rfl
theorem q1345 : (Jvm.Cond.code ({ cls := "TroughTreaty$Sight", name := "<init>", desc := "(IIIZ)V" } : Jvm.MethodName) prog_16_method_1_code (5 : Nat) (Option.none : Option Jvm.ClassFile.FieldType)) ∈ lw_all := lw_g (lw_at lw_m6 23 rfl) rfl
theorem q1346 : (Jvm.Cond.methodLinkNest "TroughTreaty$Sight" (1 : Nat) ({ cls := "TroughTreaty$Leaf", name := "<init>", desc := "()V" } : Jvm.MethodName) "TroughTreaty") ∈ lw_tbl := lw_at lw_m6 24 rfl
theorem q1350 : (Jvm.Cond.fieldLink "TroughTreaty$Sight" (7 : Nat) "TroughTreaty$Sight" "hours" "I") ∈ lw_all := lw_g (lw_at lw_m6 28 rfl) rfl
theorem q1351 : (Jvm.Cond.fieldLink "TroughTreaty$Sight" (13 : Nat) "TroughTreaty$Sight" "trough" "I") ∈ lw_all := lw_g (lw_at lw_m6 29 rfl) rfl
theorem q1352 : (Jvm.Cond.fieldLink "TroughTreaty$Sight" (16 : Nat) "TroughTreaty$Sight" "water" "I") ∈ lw_all := lw_g (lw_at lw_m6 30 rfl) rfl
theorem q1353 : (Jvm.Cond.fieldLink "TroughTreaty$Sight" (19 : Nat) "TroughTreaty$Sight" "atLeast" "Z") ∈ lw_all := lw_g (lw_at lw_m6 31 rfl) rfl
theorem q1354 : (Jvm.Cond.laysFinal "TroughTreaty$Sight" "TroughTreaty$Sight" "hours" "I") ∈ lw_all := lw_g (lw_at lw_m6 32 rfl) rfl
theorem q1355 : (Jvm.Cond.soleField "TroughTreaty$Sight" "hours") ∈ lw_all := lw_g (lw_at lw_m6 33 rfl) rfl
theorem q1356 : (Jvm.Cond.laysFinal "TroughTreaty$Sight" "TroughTreaty$Sight" "trough" "I") ∈ lw_all := lw_g (lw_at lw_m6 34 rfl) rfl
theorem q1357 : (Jvm.Cond.soleField "TroughTreaty$Sight" "trough") ∈ lw_all := lw_g (lw_at lw_m6 35 rfl) rfl
theorem q1358 : (Jvm.Cond.laysFinal "TroughTreaty$Sight" "TroughTreaty$Sight" "water" "I") ∈ lw_all := lw_g (lw_at lw_m6 36 rfl) rfl
theorem q1359 : (Jvm.Cond.soleField "TroughTreaty$Sight" "water") ∈ lw_all := lw_g (lw_at lw_m6 37 rfl) rfl
theorem q1360 : (Jvm.Cond.laysFinal "TroughTreaty$Sight" "TroughTreaty$Sight" "atLeast" "Z") ∈ lw_all := lw_g (lw_at lw_m6 38 rfl) rfl
theorem q1361 : (Jvm.Cond.soleField "TroughTreaty$Sight" "atLeast") ∈ lw_all := lw_g (lw_at lw_m6 39 rfl) rfl
theorem q1362 : (Jvm.Cond.superclass "TroughTreaty$Sight" "TroughTreaty$Leaf") ∈ lw_all := lw_g (lw_at lw_m6 40 rfl) rfl
theorem q1398 : (Jvm.Cond.selects "TroughTreaty$Sight" ({ cls := "TroughTreaty$Leaf", name := "struck", desc := "()I" } : Jvm.MethodName) ({ cls := "TroughTreaty$Leaf", name := "struck", desc := "()I" } : Jvm.MethodName)) ∈ lw_all := lw_g (lw_at lw_m6 76 rfl) rfl
theorem q1406 : (Jvm.Cond.selects "TroughTreaty$Sight" ({ cls := "TroughTreaty$Leaf", name := "hours", desc := "()I" } : Jvm.MethodName) ({ cls := "TroughTreaty$Sight", name := "hours", desc := "()I" } : Jvm.MethodName)) ∈ lw_all := lw_g (lw_at lw_m6 84 rfl) rfl
theorem q1407 : (Jvm.Cond.instanceMethod ({ cls := "TroughTreaty$Sight", name := "hours", desc := "()I" } : Jvm.MethodName)) ∈ lw_all := lw_g (lw_at lw_m6 85 rfl) rfl
theorem q1408 : (Jvm.Cond.code ({ cls := "TroughTreaty$Sight", name := "hours", desc := "()I" } : Jvm.MethodName) prog_16_method_2_code (1 : Nat) (Option.some Jvm.ClassFile.FieldType.int)) ∈ lw_all := lw_g (lw_at lw_m6 86 rfl) rfl
theorem q1418 : (Jvm.Cond.selects "TroughTreaty$Sight" ({ cls := "TroughTreaty$Leaf", name := "isSo", desc := "(LTroughTreaty$State;)Z" } : Jvm.MethodName) ({ cls := "TroughTreaty$Sight", name := "isSo", desc := "(LTroughTreaty$State;)Z" } : Jvm.MethodName)) ∈ lw_all := lw_g (lw_at lw_m6 96 rfl) rfl
theorem q1419 : (Jvm.Cond.instanceMethod ({ cls := "TroughTreaty$Sight", name := "isSo", desc := "(LTroughTreaty$State;)Z" } : Jvm.MethodName)) ∈ lw_all := lw_g (lw_at lw_m6 97 rfl) rfl
theorem q1420 : (Jvm.Cond.code ({ cls := "TroughTreaty$Sight", name := "isSo", desc := "(LTroughTreaty$State;)Z" } : Jvm.MethodName) prog_16_method_3_code (2 : Nat) (Option.some Jvm.ClassFile.FieldType.boolean)) ∈ lw_all := lw_g (lw_at lw_m6 98 rfl) rfl
theorem q2269 : (Jvm.Cond.castable "TroughTreaty$Sight" "TroughTreaty$Leaf") ∈ lw_tbl := lw_at lw_m9 227 rfl
theorem q2292 : (Jvm.Cond.castable "TroughTreaty$Sight" "java/lang/Object") ∈ lw_tbl := lw_at lw_m10 10 rfl
theorem in_X20 : ∀ w ∈ wsX200, w ∈ lw_all := lw_in wsX200 [1354, 1356, 1358, 1360] (by decide +kernel) (by decide +kernel)

/-! TroughTreaty$Strike -/
set_option maxRecDepth 100000
def RX21 : String := "TroughTreaty$Strike"
def TX21 : u_T := fun k => match k with
  | _ => ("TroughTreaty$Strike", "its", "I", true)
def tyX21 : Nat → FieldType := fun k => match k with
  | _ => .int
abbrev wsX210 : List Cond := u_ws RX21 TX21 1
theorem nmX21 : ∀ a, a < 1 → ∀ b, b < 1 → a ≠ b → (TX21 a).2.1 ≠ (TX21 b).2.1 := by decide +kernel
theorem tyX21_ok : ∀ k, k < 1 → parseFieldDescriptor (TX21 k).2.2.1 = some (tyX21 k) := by decide +kernel
abbrev cX21_init : ByteArray := prog_18_method_1_code
def yX21_init : MethodName := ⟨RX21, "<init>", "(I)V"⟩
def dkwX21_init_0 : List UInt8 := [42, 183, 0, 1, 42, 27, 181, 0, 7, 177]
abbrev dktX21_init_0 : List UInt8 := dkwX21_init_0 ++ []
theorem dksX21_init_0 : cX21_init.data.toList.drop 0 = dktX21_init_0 := by decide +kernel
theorem dX21_init_0 : decode cX21_init 0 = .ok (.aload_n 0, 1) := dk_42 (dk_at dksX21_init_0 0 rfl rfl)
theorem dX21_init_1 : decode cX21_init 1 = .ok (.invokespecial 1, 3) := dk_183 0 1 (dk_at dksX21_init_0 1 rfl rfl)
theorem dX21_init_4 : decode cX21_init 4 = .ok (.aload_n 0, 1) := dk_42 (dk_at dksX21_init_0 4 rfl rfl)
theorem dX21_init_5 : decode cX21_init 5 = .ok (.iload_n 1, 1) := dk_27 (dk_at dksX21_init_0 5 rfl rfl)
theorem dX21_init_6 : decode cX21_init 6 = .ok (.putfield 7, 3) := dk_181 0 7 (dk_at dksX21_init_0 6 rfl rfl)
theorem dX21_init_9 : decode cX21_init 9 = .ok (.return_, 1) := dk_177 (dk_at dksX21_init_0 9 rfl rfl)
abbrev cX21_struck : ByteArray := prog_18_method_2_code
def yX21_struck : MethodName := ⟨RX21, "struck", "()I"⟩
theorem dX21_struck_0 : decode cX21_struck 0 = .ok (.aload_n 0, 1) := by decide +kernel
theorem dX21_struck_1 : decode cX21_struck 1 = .ok (.getfield 7, 3) := by decide +kernel
theorem dX21_struck_4 : decode cX21_struck 4 = .ok (.ireturn, 1) := by decide +kernel
theorem q163 : (Jvm.Cond.initialized "TroughTreaty$Strike") ∈ lw_all := lw_g (lw_at lw_m1 41 rfl) rfl
theorem q842 : (Jvm.Cond.selects "TroughTreaty$Strike" ({ cls := "java/lang/Object", name := "getClass", desc := "()Ljava/lang/Class;" } : Jvm.MethodName) ({ cls := "java/lang/Object", name := "getClass", desc := "()Ljava/lang/Class;" } : Jvm.MethodName)) ∈ lw_all := lw_g (lw_at lw_m4 0 rfl) rfl
theorem q1373 : (Jvm.Cond.instantiable "TroughTreaty$Strike" (1 : Nat)) ∈ lw_all := lw_g (lw_at lw_m6 51 rfl) rfl
theorem q1375 : (Jvm.Cond.instanceMethod ({ cls := "TroughTreaty$Strike", name := "<init>", desc := "(I)V" } : Jvm.MethodName)) ∈ lw_all := lw_g (lw_at lw_m6 53 rfl) rfl
theorem q1376 : (Jvm.Cond.code ({ cls := "TroughTreaty$Strike", name := "<init>", desc := "(I)V" } : Jvm.MethodName) prog_18_method_1_code (2 : Nat) (Option.none : Option Jvm.ClassFile.FieldType)) ∈ lw_all := lw_g (lw_at lw_m6 54 rfl) rfl
theorem q1377 : (Jvm.Cond.methodLinkNest "TroughTreaty$Strike" (1 : Nat) ({ cls := "TroughTreaty$Leaf", name := "<init>", desc := "()V" } : Jvm.MethodName) "TroughTreaty") ∈ lw_tbl := lw_at lw_m6 55 rfl
theorem q1378 : (Jvm.Cond.fieldLink "TroughTreaty$Strike" (7 : Nat) "TroughTreaty$Strike" "its" "I") ∈ lw_all := lw_g (lw_at lw_m6 56 rfl) rfl
theorem q1379 : (Jvm.Cond.laysFinal "TroughTreaty$Strike" "TroughTreaty$Strike" "its" "I") ∈ lw_all := lw_g (lw_at lw_m6 57 rfl) rfl
theorem q1380 : (Jvm.Cond.soleField "TroughTreaty$Strike" "its") ∈ lw_all := lw_g (lw_at lw_m6 58 rfl) rfl
theorem q1381 : (Jvm.Cond.superclass "TroughTreaty$Strike" "TroughTreaty$Leaf") ∈ lw_all := lw_g (lw_at lw_m6 59 rfl) rfl
theorem q1399 : (Jvm.Cond.selects "TroughTreaty$Strike" ({ cls := "TroughTreaty$Leaf", name := "struck", desc := "()I" } : Jvm.MethodName) ({ cls := "TroughTreaty$Strike", name := "struck", desc := "()I" } : Jvm.MethodName)) ∈ lw_all := lw_g (lw_at lw_m6 77 rfl) rfl
theorem q1400 : (Jvm.Cond.instanceMethod ({ cls := "TroughTreaty$Strike", name := "struck", desc := "()I" } : Jvm.MethodName)) ∈ lw_all := lw_g (lw_at lw_m6 78 rfl) rfl
theorem q1401 : (Jvm.Cond.code ({ cls := "TroughTreaty$Strike", name := "struck", desc := "()I" } : Jvm.MethodName) prog_18_method_2_code (1 : Nat) (Option.some Jvm.ClassFile.FieldType.int)) ∈ lw_all := lw_g (lw_at lw_m6 79 rfl) rfl
theorem q1409 : (Jvm.Cond.selects "TroughTreaty$Strike" ({ cls := "TroughTreaty$Leaf", name := "hours", desc := "()I" } : Jvm.MethodName) ({ cls := "TroughTreaty$Leaf", name := "hours", desc := "()I" } : Jvm.MethodName)) ∈ lw_all := lw_g (lw_at lw_m6 87 rfl) rfl
theorem q1421 : (Jvm.Cond.selects "TroughTreaty$Strike" ({ cls := "TroughTreaty$Leaf", name := "isSo", desc := "(LTroughTreaty$State;)Z" } : Jvm.MethodName) ({ cls := "TroughTreaty$Leaf", name := "isSo", desc := "(LTroughTreaty$State;)Z" } : Jvm.MethodName)) ∈ lw_all := lw_g (lw_at lw_m6 99 rfl) rfl
theorem q2270 : (Jvm.Cond.castable "TroughTreaty$Strike" "TroughTreaty$Leaf") ∈ lw_tbl := lw_at lw_m9 228 rfl
theorem q2293 : (Jvm.Cond.castable "TroughTreaty$Strike" "java/lang/Object") ∈ lw_tbl := lw_at lw_m10 11 rfl
theorem in_X21 : ∀ w ∈ wsX210, w ∈ lw_all := lw_in wsX210 [1379] (by decide +kernel) (by decide +kernel)
