/-! LiarsCockLaw -/
set_option maxRecDepth 100000
def RX0 : String := "LiarsCockLaw"
abbrev cX0_secret : ByteArray := method_3_code
def yX0_secret : MethodName := ⟨RX0, "secret", "(LLiarsCock;IIIII[J)I"⟩
def dkwX0_secret_0 : List UInt8 := [25, 6, 3, 42, 27, 28, 29, 21, 4, 21, 5, 182, 0, 7, 80, 167, 0, 7, 58, 7, 4, 172, 3, 172]
abbrev dktX0_secret_0 : List UInt8 := dkwX0_secret_0 ++ []
theorem dksX0_secret_0 : cX0_secret.data.toList.drop 0 = dktX0_secret_0 := by decide +kernel
theorem dX0_secret_0 : decode cX0_secret 0 = .ok (.aload 6, 2) := dk_25 6 (dk_at dksX0_secret_0 0 rfl rfl)
theorem dX0_secret_2 : decode cX0_secret 2 = .ok (.iconst 0, 1) := dk_3 (dk_at dksX0_secret_0 2 rfl rfl)
theorem dX0_secret_3 : decode cX0_secret 3 = .ok (.aload_n 0, 1) := dk_42 (dk_at dksX0_secret_0 3 rfl rfl)
theorem dX0_secret_4 : decode cX0_secret 4 = .ok (.iload_n 1, 1) := dk_27 (dk_at dksX0_secret_0 4 rfl rfl)
theorem dX0_secret_5 : decode cX0_secret 5 = .ok (.iload_n 2, 1) := dk_28 (dk_at dksX0_secret_0 5 rfl rfl)
theorem dX0_secret_6 : decode cX0_secret 6 = .ok (.iload_n 3, 1) := dk_29 (dk_at dksX0_secret_0 6 rfl rfl)
theorem dX0_secret_7 : decode cX0_secret 7 = .ok (.iload 4, 2) := dk_21 4 (dk_at dksX0_secret_0 7 rfl rfl)
theorem dX0_secret_9 : decode cX0_secret 9 = .ok (.iload 5, 2) := dk_21 5 (dk_at dksX0_secret_0 9 rfl rfl)
theorem dX0_secret_11 : decode cX0_secret 11 = .ok (.invokevirtual 7, 3) := dk_182 0 7 (dk_at dksX0_secret_0 11 rfl rfl)
theorem dX0_secret_14 : decode cX0_secret 14 = .ok (.lastore, 1) := dk_80 (dk_at dksX0_secret_0 14 rfl rfl)
theorem dX0_secret_15 : decode cX0_secret 15 = .ok (.goto 7, 3) := dk_167 0 7 (dk_at dksX0_secret_0 15 rfl rfl)
theorem dX0_secret_18 : decode cX0_secret 18 = .ok (.astore 7, 2) := dk_58 7 (dk_at dksX0_secret_0 18 rfl rfl)
theorem dX0_secret_20 : decode cX0_secret 20 = .ok (.iconst 1, 1) := dk_4 (dk_at dksX0_secret_0 20 rfl rfl)
theorem dX0_secret_21 : decode cX0_secret 21 = .ok (.ireturn, 1) := dk_172 (dk_at dksX0_secret_0 21 rfl rfl)
theorem dX0_secret_22 : decode cX0_secret 22 = .ok (.iconst 0, 1) := dk_3 (dk_at dksX0_secret_0 22 rfl rfl)
theorem dX0_secret_23 : decode cX0_secret 23 = .ok (.ireturn, 1) := dk_172 (dk_at dksX0_secret_0 23 rfl rfl)
theorem q118 : (Jvm.Cond.initialized "LiarsCockLaw") ∈ lw_all := lw_g (lw_at lw_m1 0 rfl) rfl
theorem q166 : (Jvm.Cond.classLink "LiarsCockLaw" (8 : Nat) "LiarsCock") ∈ lw_all := lw_g (lw_at lw_m1 48 rfl) rfl
theorem q168 : (Jvm.Cond.methodLink "LiarsCockLaw" (15 : Nat) ({ cls := "LiarsCock", name := "<init>", desc := "()V" } : Jvm.MethodName)) ∈ lw_all := lw_g (lw_at lw_m1 50 rfl) rfl
theorem q459 : (Jvm.Cond.methodLink "LiarsCockLaw" (21 : Nat) ({ cls := "LiarsCock", name := "feed", desc := "(JJJ)I" } : Jvm.MethodName)) ∈ lw_all := lw_g (lw_at lw_m2 101 rfl) rfl
theorem q471 : (Jvm.Cond.methodLink "LiarsCockLaw" (26 : Nat) ({ cls := "LiarsCock", name := "parish", desc := "()I" } : Jvm.MethodName)) ∈ lw_all := lw_g (lw_at lw_m2 113 rfl) rfl
theorem q1092 : (Jvm.Cond.methodLink "LiarsCockLaw" (40 : Nat) ({ cls := "LiarsCock", name := "truth", desc := "(I)Z" } : Jvm.MethodName)) ∈ lw_all := lw_g (lw_at lw_m5 14 rfl) rfl
theorem q1102 : (Jvm.Cond.methodLink "LiarsCockLaw" (31 : Nat) ({ cls := "LiarsCock", name := "say", desc := "(II)I" } : Jvm.MethodName)) ∈ lw_all := lw_g (lw_at lw_m5 24 rfl) rfl
theorem q1168 : (Jvm.Cond.methodLink "LiarsCockLaw" (36 : Nat) ({ cls := "LiarsCock", name := "offer", desc := "(II)I" } : Jvm.MethodName)) ∈ lw_all := lw_g (lw_at lw_m5 90 rfl) rfl
theorem q1172 : (Jvm.Cond.methodLink "LiarsCockLaw" (63 : Nat) ({ cls := "LiarsCock", name := "points", desc := "(III)I" } : Jvm.MethodName)) ∈ lw_all := lw_g (lw_at lw_m5 94 rfl) rfl
theorem q1196 : (Jvm.Cond.methodLink "LiarsCockLaw" (59 : Nat) ({ cls := "LiarsCock", name := "lie", desc := "(II)I" } : Jvm.MethodName)) ∈ lw_all := lw_g (lw_at lw_m5 118 rfl) rfl
theorem q1205 : (Jvm.Cond.methodLink "LiarsCockLaw" (45 : Nat) ({ cls := "LiarsCock", name := "look", desc := "(IIII)I" } : Jvm.MethodName)) ∈ lw_all := lw_g (lw_at lw_m5 127 rfl) rfl
theorem q1233 : (Jvm.Cond.methodLink "LiarsCockLaw" (50 : Nat) ({ cls := "LiarsCock", name := "watch", desc := "(II)I" } : Jvm.MethodName)) ∈ lw_all := lw_g (lw_at lw_m5 155 rfl) rfl
theorem q1237 : (Jvm.Cond.methodLink "LiarsCockLaw" (54 : Nat) ({ cls := "LiarsCock", name := "world", desc := "(I)I" } : Jvm.MethodName)) ∈ lw_all := lw_g (lw_at lw_m5 159 rfl) rfl
theorem q1273 : (Jvm.Cond.methodLink "LiarsCockLaw" (68 : Nat) ({ cls := "LiarsCock", name := "worlds", desc := "(I)I" } : Jvm.MethodName)) ∈ lw_all := lw_g (lw_at lw_m5 195 rfl) rfl
theorem q1288 : (Jvm.Cond.methodLink "LiarsCockLaw" (72 : Nat) ({ cls := "LiarsCock", name := "sureFact", desc := "(I)I" } : Jvm.MethodName)) ∈ lw_all := lw_g (lw_at lw_m5 210 rfl) rfl
theorem q1296 : (Jvm.Cond.methodLink "LiarsCockLaw" (76 : Nat) ({ cls := "LiarsCock", name := "sure", desc := "(I)I" } : Jvm.MethodName)) ∈ lw_all := lw_g (lw_at lw_m5 218 rfl) rfl
theorem q1300 : (Jvm.Cond.methodLink "LiarsCockLaw" (80 : Nat) ({ cls := "LiarsCock", name := "odds", desc := "(II)J" } : Jvm.MethodName)) ∈ lw_all := lw_g (lw_at lw_m5 222 rfl) rfl
theorem q1317 : (Jvm.Cond.methodLink "LiarsCockLaw" (85 : Nat) ({ cls := "LiarsCock", name := "proof", desc := "(II)I" } : Jvm.MethodName)) ∈ lw_all := lw_g (lw_at lw_m5 239 rfl) rfl
theorem q1341 : (Jvm.Cond.methodLink "LiarsCockLaw" (89 : Nat) ({ cls := "LiarsCock", name := "clash", desc := "(I)I" } : Jvm.MethodName)) ∈ lw_all := lw_g (lw_at lw_m6 23 rfl) rfl
theorem q1345 : (Jvm.Cond.methodLink "LiarsCockLaw" (93 : Nat) ({ cls := "LiarsCock", name := "next", desc := "(IIII)I" } : Jvm.MethodName)) ∈ lw_all := lw_g (lw_at lw_m6 27 rfl) rfl
theorem q1364 : (Jvm.Cond.methodLink "LiarsCockLaw" (97 : Nat) ({ cls := "LiarsCock", name := "fog", desc := "(IIII)I" } : Jvm.MethodName)) ∈ lw_all := lw_g (lw_at lw_m6 46 rfl) rfl
theorem q1368 : (Jvm.Cond.methodLink "LiarsCockLaw" (101 : Nat) ({ cls := "LiarsCock", name := "learns", desc := "(IIZII)I" } : Jvm.MethodName)) ∈ lw_all := lw_g (lw_at lw_m6 50 rfl) rfl
theorem q1382 : (Jvm.Cond.methodLink "LiarsCockLaw" (106 : Nat) ({ cls := "LiarsCock", name := "judged", desc := "()I" } : Jvm.MethodName)) ∈ lw_all := lw_g (lw_at lw_m6 64 rfl) rfl
theorem q1386 : (Jvm.Cond.methodLink "LiarsCockLaw" (110 : Nat) ({ cls := "LiarsCock", name := "turned", desc := "(II)I" } : Jvm.MethodName)) ∈ lw_all := lw_g (lw_at lw_m6 68 rfl) rfl
theorem q1390 : (Jvm.Cond.methodLink "LiarsCockLaw" (114 : Nat) ({ cls := "LiarsCock", name := "pointed", desc := "(IIII)I" } : Jvm.MethodName)) ∈ lw_all := lw_g (lw_at lw_m6 72 rfl) rfl
theorem q1394 : (Jvm.Cond.methodLink "LiarsCockLaw" (118 : Nat) ({ cls := "LiarsCock", name := "round", desc := "(II)I" } : Jvm.MethodName)) ∈ lw_all := lw_g (lw_at lw_m6 76 rfl) rfl
theorem q1405 : (Jvm.Cond.methodLink "LiarsCockLaw" (122 : Nat) ({ cls := "LiarsCock", name := "hidden", desc := "(II)I" } : Jvm.MethodName)) ∈ lw_all := lw_g (lw_at lw_m6 87 rfl) rfl
theorem q1433 : (Jvm.Cond.methodLink "LiarsCockLaw" (126 : Nat) ({ cls := "LiarsCock", name := "hide", desc := "(II)I" } : Jvm.MethodName)) ∈ lw_all := lw_g (lw_at lw_m6 115 rfl) rfl
theorem q1437 : (Jvm.Cond.methodLink "LiarsCockLaw" (139 : Nat) ({ cls := "LiarsCock", name := "sector", desc := "(II)I" } : Jvm.MethodName)) ∈ lw_all := lw_g (lw_at lw_m6 119 rfl) rfl
theorem q1442 : (Jvm.Cond.methodLink "LiarsCockLaw" (143 : Nat) ({ cls := "LiarsCock", name := "blind", desc := "(II)I" } : Jvm.MethodName)) ∈ lw_all := lw_g (lw_at lw_m6 124 rfl) rfl
theorem q1455 : (Jvm.Cond.methodLink "LiarsCockLaw" (147 : Nat) ({ cls := "LiarsCock", name := "told", desc := "(I)I" } : Jvm.MethodName)) ∈ lw_all := lw_g (lw_at lw_m6 137 rfl) rfl
theorem q1471 : (Jvm.Cond.methodLink "LiarsCockLaw" (151 : Nat) ({ cls := "LiarsCock", name := "fewest", desc := "(II)I" } : Jvm.MethodName)) ∈ lw_all := lw_g (lw_at lw_m6 153 rfl) rfl
theorem q1475 : (Jvm.Cond.methodLink "LiarsCockLaw" (155 : Nat) ({ cls := "LiarsCock", name := "person", desc := "(II)I" } : Jvm.MethodName)) ∈ lw_all := lw_g (lw_at lw_m6 157 rfl) rfl
theorem q1479 : (Jvm.Cond.methodLink "LiarsCockLaw" (159 : Nat) ({ cls := "LiarsCock", name := "lookout", desc := "(III)I" } : Jvm.MethodName)) ∈ lw_all := lw_g (lw_at lw_m6 161 rfl) rfl
theorem q1513 : (Jvm.Cond.methodLink "LiarsCockLaw" (163 : Nat) ({ cls := "LiarsCock", name := "move", desc := "(II)I" } : Jvm.MethodName)) ∈ lw_all := lw_g (lw_at lw_m6 195 rfl) rfl
theorem q1517 : (Jvm.Cond.methodLink "LiarsCockLaw" (167 : Nat) ({ cls := "LiarsCock", name := "longest", desc := "(IIII)I" } : Jvm.MethodName)) ∈ lw_all := lw_g (lw_at lw_m6 199 rfl) rfl
theorem q1521 : (Jvm.Cond.methodLink "LiarsCockLaw" (171 : Nat) ({ cls := "LiarsCock", name := "differ", desc := "(II)I" } : Jvm.MethodName)) ∈ lw_all := lw_g (lw_at lw_m6 203 rfl) rfl
theorem q1525 : (Jvm.Cond.methodLink "LiarsCockLaw" (175 : Nat) ({ cls := "LiarsCock", name := "mark", desc := "(IZ)Z" } : Jvm.MethodName)) ∈ lw_all := lw_g (lw_at lw_m6 207 rfl) rfl
theorem q1571 : (Jvm.Cond.methodLink "LiarsCockLaw" (180 : Nat) ({ cls := "LiarsCock", name := "count", desc := "(I)I" } : Jvm.MethodName)) ∈ lw_all := lw_g (lw_at lw_m7 13 rfl) rfl
theorem q1575 : (Jvm.Cond.methodLink "LiarsCockLaw" (130 : Nat) ({ cls := "LiarsCockLaw", name := "secret", desc := "(LLiarsCock;IIIII[J)I" } : Jvm.MethodName)) ∈ lw_all := lw_g (lw_at lw_m7 17 rfl) rfl
theorem q1576 : (Jvm.Cond.static ({ cls := "LiarsCockLaw", name := "secret", desc := "(LLiarsCock;IIIII[J)I" } : Jvm.MethodName)) ∈ lw_all := lw_g (lw_at lw_m7 18 rfl) rfl
theorem q1577 : (Jvm.Cond.codeWith ({ cls := "LiarsCockLaw", name := "secret", desc := "(LLiarsCock;IIIII[J)I" } : Jvm.MethodName) method_3_code (8 : Nat) (Option.some Jvm.ClassFile.FieldType.int) [((0 : Nat), (15 : Nat), (18 : Nat), (13 : Nat))]) ∈ lw_all := lw_g (lw_at lw_m7 19 rfl) rfl
theorem q1578 : (Jvm.Cond.classLink "LiarsCockLaw" (13 : Nat) "java/util/NoSuchElementException") ∈ lw_all := lw_g (lw_at lw_m7 20 rfl) rfl
theorem q1579 : (Jvm.Cond.methodLink "LiarsCockLaw" (7 : Nat) ({ cls := "LiarsCock", name := "secret", desc := "(IIIII)J" } : Jvm.MethodName)) ∈ lw_all := lw_g (lw_at lw_m7 21 rfl) rfl
theorem q1604 : (Jvm.Cond.classLink "LiarsCockLaw" (16 : Nat) "LiarsCockModel") ∈ lw_all := lw_g (lw_at lw_m7 46 rfl) rfl
theorem q1606 : (Jvm.Cond.methodLink "LiarsCockLaw" (18 : Nat) ({ cls := "LiarsCockModel", name := "<init>", desc := "()V" } : Jvm.MethodName)) ∈ lw_all := lw_g (lw_at lw_m7 48 rfl) rfl
theorem q1823 : (Jvm.Cond.methodLink "LiarsCockLaw" (136 : Nat) ({ cls := "LiarsCockModel", name := "thrown", desc := "()I" } : Jvm.MethodName)) ∈ lw_all := lw_g (lw_at lw_m8 25 rfl) rfl
theorem q1827 : (Jvm.Cond.methodLink "LiarsCockLaw" (25 : Nat) ({ cls := "LiarsCockModel", name := "feed", desc := "(JJJ)I" } : Jvm.MethodName)) ∈ lw_all := lw_g (lw_at lw_m8 29 rfl) rfl
theorem q1832 : (Jvm.Cond.methodLink "LiarsCockLaw" (30 : Nat) ({ cls := "LiarsCockModel", name := "parish", desc := "()I" } : Jvm.MethodName)) ∈ lw_all := lw_g (lw_at lw_m8 34 rfl) rfl
theorem q1957 : (Jvm.Cond.methodLink "LiarsCockLaw" (35 : Nat) ({ cls := "LiarsCockModel", name := "say", desc := "(II)I" } : Jvm.MethodName)) ∈ lw_all := lw_g (lw_at lw_m8 159 rfl) rfl
theorem q1972 : (Jvm.Cond.methodLink "LiarsCockLaw" (39 : Nat) ({ cls := "LiarsCockModel", name := "offer", desc := "(II)I" } : Jvm.MethodName)) ∈ lw_all := lw_g (lw_at lw_m8 174 rfl) rfl
theorem q1976 : (Jvm.Cond.methodLink "LiarsCockLaw" (44 : Nat) ({ cls := "LiarsCockModel", name := "truth", desc := "(I)Z" } : Jvm.MethodName)) ∈ lw_all := lw_g (lw_at lw_m8 178 rfl) rfl
theorem q1984 : (Jvm.Cond.methodLink "LiarsCockLaw" (62 : Nat) ({ cls := "LiarsCockModel", name := "lie", desc := "(II)I" } : Jvm.MethodName)) ∈ lw_all := lw_g (lw_at lw_m8 186 rfl) rfl
theorem q1999 : (Jvm.Cond.methodLink "LiarsCockLaw" (67 : Nat) ({ cls := "LiarsCockModel", name := "points", desc := "(III)I" } : Jvm.MethodName)) ∈ lw_all := lw_g (lw_at lw_m8 201 rfl) rfl
theorem q2019 : (Jvm.Cond.methodLink "LiarsCockLaw" (49 : Nat) ({ cls := "LiarsCockModel", name := "look", desc := "(IIII)I" } : Jvm.MethodName)) ∈ lw_all := lw_g (lw_at lw_m8 221 rfl) rfl
theorem q2026 : (Jvm.Cond.methodLink "LiarsCockLaw" (58 : Nat) ({ cls := "LiarsCockModel", name := "world", desc := "(I)I" } : Jvm.MethodName)) ∈ lw_all := lw_g (lw_at lw_m8 228 rfl) rfl
theorem q2045 : (Jvm.Cond.methodLink "LiarsCockLaw" (71 : Nat) ({ cls := "LiarsCockModel", name := "worlds", desc := "(I)I" } : Jvm.MethodName)) ∈ lw_all := lw_g (lw_at lw_m9 7 rfl) rfl
theorem q2060 : (Jvm.Cond.methodLink "LiarsCockLaw" (75 : Nat) ({ cls := "LiarsCockModel", name := "sureFact", desc := "(I)I" } : Jvm.MethodName)) ∈ lw_all := lw_g (lw_at lw_m9 22 rfl) rfl
theorem q2067 : (Jvm.Cond.methodLink "LiarsCockLaw" (79 : Nat) ({ cls := "LiarsCockModel", name := "sure", desc := "(I)I" } : Jvm.MethodName)) ∈ lw_all := lw_g (lw_at lw_m9 29 rfl) rfl
theorem q2071 : (Jvm.Cond.methodLink "LiarsCockLaw" (84 : Nat) ({ cls := "LiarsCockModel", name := "odds", desc := "(II)J" } : Jvm.MethodName)) ∈ lw_all := lw_g (lw_at lw_m9 33 rfl) rfl
theorem q2085 : (Jvm.Cond.methodLink "LiarsCockLaw" (88 : Nat) ({ cls := "LiarsCockModel", name := "proof", desc := "(II)I" } : Jvm.MethodName)) ∈ lw_all := lw_g (lw_at lw_m9 47 rfl) rfl
theorem q2093 : (Jvm.Cond.methodLink "LiarsCockLaw" (92 : Nat) ({ cls := "LiarsCockModel", name := "clash", desc := "(I)I" } : Jvm.MethodName)) ∈ lw_all := lw_g (lw_at lw_m9 55 rfl) rfl
theorem q2097 : (Jvm.Cond.methodLink "LiarsCockLaw" (96 : Nat) ({ cls := "LiarsCockModel", name := "next", desc := "(IIII)I" } : Jvm.MethodName)) ∈ lw_all := lw_g (lw_at lw_m9 59 rfl) rfl
theorem q2114 : (Jvm.Cond.methodLink "LiarsCockLaw" (100 : Nat) ({ cls := "LiarsCockModel", name := "fog", desc := "(IIII)I" } : Jvm.MethodName)) ∈ lw_all := lw_g (lw_at lw_m9 76 rfl) rfl
theorem q2118 : (Jvm.Cond.methodLink "LiarsCockLaw" (105 : Nat) ({ cls := "LiarsCockModel", name := "learns", desc := "(IIZII)I" } : Jvm.MethodName)) ∈ lw_all := lw_g (lw_at lw_m9 80 rfl) rfl
theorem q2122 : (Jvm.Cond.methodLink "LiarsCockLaw" (109 : Nat) ({ cls := "LiarsCockModel", name := "judged", desc := "()I" } : Jvm.MethodName)) ∈ lw_all := lw_g (lw_at lw_m9 84 rfl) rfl
theorem q2126 : (Jvm.Cond.methodLink "LiarsCockLaw" (113 : Nat) ({ cls := "LiarsCockModel", name := "turned", desc := "(II)I" } : Jvm.MethodName)) ∈ lw_all := lw_g (lw_at lw_m9 88 rfl) rfl
theorem q2130 : (Jvm.Cond.methodLink "LiarsCockLaw" (117 : Nat) ({ cls := "LiarsCockModel", name := "pointed", desc := "(IIII)I" } : Jvm.MethodName)) ∈ lw_all := lw_g (lw_at lw_m9 92 rfl) rfl
theorem q2134 : (Jvm.Cond.methodLink "LiarsCockLaw" (121 : Nat) ({ cls := "LiarsCockModel", name := "round", desc := "(II)I" } : Jvm.MethodName)) ∈ lw_all := lw_g (lw_at lw_m9 96 rfl) rfl
theorem q2142 : (Jvm.Cond.methodLink "LiarsCockLaw" (53 : Nat) ({ cls := "LiarsCockModel", name := "watch", desc := "(II)I" } : Jvm.MethodName)) ∈ lw_all := lw_g (lw_at lw_m9 104 rfl) rfl
theorem q2146 : (Jvm.Cond.methodLink "LiarsCockLaw" (125 : Nat) ({ cls := "LiarsCockModel", name := "hidden", desc := "(II)I" } : Jvm.MethodName)) ∈ lw_all := lw_g (lw_at lw_m9 108 rfl) rfl
theorem q2158 : (Jvm.Cond.methodLink "LiarsCockLaw" (129 : Nat) ({ cls := "LiarsCockModel", name := "hide", desc := "(II)I" } : Jvm.MethodName)) ∈ lw_all := lw_g (lw_at lw_m9 120 rfl) rfl
theorem q2162 : (Jvm.Cond.methodLink "LiarsCockLaw" (135 : Nat) ({ cls := "LiarsCockModel", name := "secret", desc := "(IIIII)J" } : Jvm.MethodName)) ∈ lw_all := lw_g (lw_at lw_m9 124 rfl) rfl
theorem q2167 : (Jvm.Cond.methodLink "LiarsCockLaw" (142 : Nat) ({ cls := "LiarsCockModel", name := "sector", desc := "(II)I" } : Jvm.MethodName)) ∈ lw_all := lw_g (lw_at lw_m9 129 rfl) rfl
theorem q2171 : (Jvm.Cond.methodLink "LiarsCockLaw" (146 : Nat) ({ cls := "LiarsCockModel", name := "blind", desc := "(II)I" } : Jvm.MethodName)) ∈ lw_all := lw_g (lw_at lw_m9 133 rfl) rfl
theorem q2175 : (Jvm.Cond.methodLink "LiarsCockLaw" (150 : Nat) ({ cls := "LiarsCockModel", name := "told", desc := "(I)I" } : Jvm.MethodName)) ∈ lw_all := lw_g (lw_at lw_m9 137 rfl) rfl
theorem q2183 : (Jvm.Cond.methodLink "LiarsCockLaw" (154 : Nat) ({ cls := "LiarsCockModel", name := "fewest", desc := "(II)I" } : Jvm.MethodName)) ∈ lw_all := lw_g (lw_at lw_m9 145 rfl) rfl
theorem q2187 : (Jvm.Cond.methodLink "LiarsCockLaw" (158 : Nat) ({ cls := "LiarsCockModel", name := "person", desc := "(II)I" } : Jvm.MethodName)) ∈ lw_all := lw_g (lw_at lw_m9 149 rfl) rfl
theorem q2191 : (Jvm.Cond.methodLink "LiarsCockLaw" (162 : Nat) ({ cls := "LiarsCockModel", name := "lookout", desc := "(III)I" } : Jvm.MethodName)) ∈ lw_all := lw_g (lw_at lw_m9 153 rfl) rfl
theorem q2211 : (Jvm.Cond.methodLink "LiarsCockLaw" (166 : Nat) ({ cls := "LiarsCockModel", name := "move", desc := "(II)I" } : Jvm.MethodName)) ∈ lw_all := lw_g (lw_at lw_m9 173 rfl) rfl
theorem q2215 : (Jvm.Cond.methodLink "LiarsCockLaw" (170 : Nat) ({ cls := "LiarsCockModel", name := "longest", desc := "(IIII)I" } : Jvm.MethodName)) ∈ lw_all := lw_g (lw_at lw_m9 177 rfl) rfl
theorem q2219 : (Jvm.Cond.methodLink "LiarsCockLaw" (174 : Nat) ({ cls := "LiarsCockModel", name := "differ", desc := "(II)I" } : Jvm.MethodName)) ∈ lw_all := lw_g (lw_at lw_m9 181 rfl) rfl
theorem q2223 : (Jvm.Cond.methodLink "LiarsCockLaw" (179 : Nat) ({ cls := "LiarsCockModel", name := "mark", desc := "(IZ)Z" } : Jvm.MethodName)) ∈ lw_all := lw_g (lw_at lw_m9 185 rfl) rfl
theorem q2239 : (Jvm.Cond.methodLink "LiarsCockLaw" (183 : Nat) ({ cls := "LiarsCockModel", name := "count", desc := "(I)I" } : Jvm.MethodName)) ∈ lw_all := lw_g (lw_at lw_m9 201 rfl) rfl
theorem q2243 : (Jvm.Cond.constantLong "LiarsCockLaw" (19 : Nat) (4294967295 : Int64)) ∈ lw_all := lw_g (lw_at lw_m9 205 rfl) rfl

/-! LiarsCock$Parish -/
set_option maxRecDepth 100000
def RX3 : String := "LiarsCock$Parish"
def TX3 : u_T := fun k => match k with
  | 0 => ("LiarsCock$Parish", "facts", "Ljava/util/ArrayList;", true)
  | 1 => ("LiarsCock$Parish", "places", "Ljava/util/ArrayList;", true)
  | 2 => ("LiarsCock$Parish", "names", "Ljava/util/ArrayList;", true)
  | 3 => ("LiarsCock$Parish", "people", "Ljava/util/ArrayList;", true)
  | 4 => ("LiarsCock$Parish", "chances", "[I", true)
  | 5 => ("LiarsCock$Parish", "bearings", "[I", true)
  | 6 => ("LiarsCock$Parish", "cocks", "[LLiarsCock$Cock;", true)
  | 7 => ("LiarsCock$Parish", "commons", "I", false)
  | 8 => ("LiarsCock$Parish", "common", "J", false)
  | _ => ("LiarsCock$Parish", "laid", "LLiarsCock$Facts;", true)
def tyX3 : Nat → FieldType := fun k => match k with
  | 0 => .object "java/util/ArrayList"
  | 1 => .object "java/util/ArrayList"
  | 2 => .object "java/util/ArrayList"
  | 3 => .object "java/util/ArrayList"
  | 4 => .array .int
  | 5 => .array .int
  | 6 => .array (.object "LiarsCock$Cock")
  | 7 => .int
  | 8 => .long
  | _ => .object "LiarsCock$Facts"
abbrev wsX30 : List Cond := u_ws RX3 TX3 10
theorem nmX3 : ∀ a, a < 10 → ∀ b, b < 10 → a ≠ b → (TX3 a).2.1 ≠ (TX3 b).2.1 := by decide +kernel
theorem tyX3_ok : ∀ k, k < 10 → parseFieldDescriptor (TX3 k).2.2.1 = some (tyX3 k) := by decide +kernel
abbrev cX3_init : ByteArray := prog_17_method_1_code
def yX3_init : MethodName := ⟨RX3, "<init>", "()V"⟩
def dkwX3_init_3 : List UInt8 := [42, 5, 189, 0, 36, 181, 0, 38, 42, 187, 0, 42, 89, 183, 0, 44, 181, 0, 45, 177]
abbrev dktX3_init_3 : List UInt8 := dkwX3_init_3 ++ []
def dkwX3_init_2 : List UInt8 := [16, 6, 183, 0, 11, 181, 0, 26, 42, 16, 6, 188, 10, 181, 0, 29, 42, 16, 6, 188, 10, 181, 0, 33]
abbrev dktX3_init_2 : List UInt8 := dkwX3_init_2 ++ dktX3_init_3
def dkwX3_init_1 : List UInt8 := [183, 0, 11, 181, 0, 20, 42, 187, 0, 9, 89, 16, 6, 183, 0, 11, 181, 0, 23, 42, 187, 0, 9, 89]
abbrev dktX3_init_1 : List UInt8 := dkwX3_init_1 ++ dktX3_init_2
def dkwX3_init_0 : List UInt8 := [42, 183, 0, 3, 42, 187, 0, 9, 89, 16, 6, 183, 0, 11, 181, 0, 14, 42, 187, 0, 9, 89, 16, 6]
abbrev dktX3_init_0 : List UInt8 := dkwX3_init_0 ++ dktX3_init_1
theorem dksX3_init_0 : cX3_init.data.toList.drop 0 = dktX3_init_0 := by decide +kernel
theorem dksX3_init_1 : cX3_init.data.toList.drop 24 = dktX3_init_1 := dk_seg dksX3_init_0 24 rfl rfl
theorem dksX3_init_2 : cX3_init.data.toList.drop 48 = dktX3_init_2 := dk_seg dksX3_init_1 24 rfl rfl
theorem dksX3_init_3 : cX3_init.data.toList.drop 72 = dktX3_init_3 := dk_seg dksX3_init_2 24 rfl rfl
theorem dX3_init_0 : decode cX3_init 0 = .ok (.aload_n 0, 1) := dk_42 (dk_at dksX3_init_0 0 rfl rfl)
theorem dX3_init_1 : decode cX3_init 1 = .ok (.invokespecial 3, 3) := dk_183 0 3 (dk_at dksX3_init_0 1 rfl rfl)
theorem dX3_init_4 : decode cX3_init 4 = .ok (.aload_n 0, 1) := dk_42 (dk_at dksX3_init_0 4 rfl rfl)
theorem dX3_init_5 : decode cX3_init 5 = .ok (.new 9, 3) := dk_187 0 9 (dk_at dksX3_init_0 5 rfl rfl)
theorem dX3_init_8 : decode cX3_init 8 = .ok (.dup, 1) := dk_89 (dk_at dksX3_init_0 8 rfl rfl)
theorem dX3_init_9 : decode cX3_init 9 = .ok (.bipush 6, 2) := dk_16 6 (dk_at dksX3_init_0 9 rfl rfl)
theorem dX3_init_11 : decode cX3_init 11 = .ok (.invokespecial 11, 3) := dk_183 0 11 (dk_at dksX3_init_0 11 rfl rfl)
theorem dX3_init_14 : decode cX3_init 14 = .ok (.putfield 14, 3) := dk_181 0 14 (dk_at dksX3_init_0 14 rfl rfl)
theorem dX3_init_17 : decode cX3_init 17 = .ok (.aload_n 0, 1) := dk_42 (dk_at dksX3_init_0 17 rfl rfl)
theorem dX3_init_18 : decode cX3_init 18 = .ok (.new 9, 3) := dk_187 0 9 (dk_at dksX3_init_0 18 rfl rfl)
theorem dX3_init_21 : decode cX3_init 21 = .ok (.dup, 1) := dk_89 (dk_at dksX3_init_0 21 rfl rfl)
theorem dX3_init_22 : decode cX3_init 22 = .ok (.bipush 6, 2) := dk_16 6 (dk_at dksX3_init_0 22 rfl rfl)
theorem dX3_init_24 : decode cX3_init 24 = .ok (.invokespecial 11, 3) := dk_183 0 11 (dk_at dksX3_init_1 0 rfl rfl)
theorem dX3_init_27 : decode cX3_init 27 = .ok (.putfield 20, 3) := dk_181 0 20 (dk_at dksX3_init_1 3 rfl rfl)
theorem dX3_init_30 : decode cX3_init 30 = .ok (.aload_n 0, 1) := dk_42 (dk_at dksX3_init_1 6 rfl rfl)
theorem dX3_init_31 : decode cX3_init 31 = .ok (.new 9, 3) := dk_187 0 9 (dk_at dksX3_init_1 7 rfl rfl)
theorem dX3_init_34 : decode cX3_init 34 = .ok (.dup, 1) := dk_89 (dk_at dksX3_init_1 10 rfl rfl)
theorem dX3_init_35 : decode cX3_init 35 = .ok (.bipush 6, 2) := dk_16 6 (dk_at dksX3_init_1 11 rfl rfl)
theorem dX3_init_37 : decode cX3_init 37 = .ok (.invokespecial 11, 3) := dk_183 0 11 (dk_at dksX3_init_1 13 rfl rfl)
theorem dX3_init_40 : decode cX3_init 40 = .ok (.putfield 23, 3) := dk_181 0 23 (dk_at dksX3_init_1 16 rfl rfl)
theorem dX3_init_43 : decode cX3_init 43 = .ok (.aload_n 0, 1) := dk_42 (dk_at dksX3_init_1 19 rfl rfl)
theorem dX3_init_44 : decode cX3_init 44 = .ok (.new 9, 3) := dk_187 0 9 (dk_at dksX3_init_1 20 rfl rfl)
theorem dX3_init_47 : decode cX3_init 47 = .ok (.dup, 1) := dk_89 (dk_at dksX3_init_1 23 rfl rfl)
theorem dX3_init_48 : decode cX3_init 48 = .ok (.bipush 6, 2) := dk_16 6 (dk_at dksX3_init_2 0 rfl rfl)
theorem dX3_init_50 : decode cX3_init 50 = .ok (.invokespecial 11, 3) := dk_183 0 11 (dk_at dksX3_init_2 2 rfl rfl)
theorem dX3_init_53 : decode cX3_init 53 = .ok (.putfield 26, 3) := dk_181 0 26 (dk_at dksX3_init_2 5 rfl rfl)
theorem dX3_init_56 : decode cX3_init 56 = .ok (.aload_n 0, 1) := dk_42 (dk_at dksX3_init_2 8 rfl rfl)
theorem dX3_init_57 : decode cX3_init 57 = .ok (.bipush 6, 2) := dk_16 6 (dk_at dksX3_init_2 9 rfl rfl)
theorem dX3_init_59 : decode cX3_init 59 = .ok (.newarray .int, 2) := dk_188_10 (dk_at dksX3_init_2 11 rfl rfl)
theorem dX3_init_61 : decode cX3_init 61 = .ok (.putfield 29, 3) := dk_181 0 29 (dk_at dksX3_init_2 13 rfl rfl)
theorem dX3_init_64 : decode cX3_init 64 = .ok (.aload_n 0, 1) := dk_42 (dk_at dksX3_init_2 16 rfl rfl)
theorem dX3_init_65 : decode cX3_init 65 = .ok (.bipush 6, 2) := dk_16 6 (dk_at dksX3_init_2 17 rfl rfl)
theorem dX3_init_67 : decode cX3_init 67 = .ok (.newarray .int, 2) := dk_188_10 (dk_at dksX3_init_2 19 rfl rfl)
theorem dX3_init_69 : decode cX3_init 69 = .ok (.putfield 33, 3) := dk_181 0 33 (dk_at dksX3_init_2 21 rfl rfl)
theorem dX3_init_72 : decode cX3_init 72 = .ok (.aload_n 0, 1) := dk_42 (dk_at dksX3_init_3 0 rfl rfl)
theorem dX3_init_73 : decode cX3_init 73 = .ok (.iconst 2, 1) := dk_5 (dk_at dksX3_init_3 1 rfl rfl)
theorem dX3_init_74 : decode cX3_init 74 = .ok (.anewarray 36, 3) := dk_189 0 36 (dk_at dksX3_init_3 2 rfl rfl)
theorem dX3_init_77 : decode cX3_init 77 = .ok (.putfield 38, 3) := dk_181 0 38 (dk_at dksX3_init_3 5 rfl rfl)
theorem dX3_init_80 : decode cX3_init 80 = .ok (.aload_n 0, 1) := dk_42 (dk_at dksX3_init_3 8 rfl rfl)
theorem dX3_init_81 : decode cX3_init 81 = .ok (.new 42, 3) := dk_187 0 42 (dk_at dksX3_init_3 9 rfl rfl)
theorem dX3_init_84 : decode cX3_init 84 = .ok (.dup, 1) := dk_89 (dk_at dksX3_init_3 12 rfl rfl)
theorem dX3_init_85 : decode cX3_init 85 = .ok (.invokespecial 44, 3) := dk_183 0 44 (dk_at dksX3_init_3 13 rfl rfl)
theorem dX3_init_88 : decode cX3_init 88 = .ok (.putfield 45, 3) := dk_181 0 45 (dk_at dksX3_init_3 16 rfl rfl)
theorem dX3_init_91 : decode cX3_init 91 = .ok (.return_, 1) := dk_177 (dk_at dksX3_init_3 19 rfl rfl)
abbrev cX3_isTold : ByteArray := prog_17_method_3_code
def yX3_isTold : MethodName := ⟨RX3, "isTold", "(J)Z"⟩
def dkwX3_isTold_1 : List UInt8 := [42, 180, 0, 23, 31, 184, 0, 63, 2, 159, 0, 7, 4, 167, 0, 4, 3, 172]
abbrev dktX3_isTold_1 : List UInt8 := dkwX3_isTold_1 ++ []
def dkwX3_isTold_0 : List UInt8 := [42, 180, 0, 14, 31, 184, 0, 63, 2, 160, 0, 27, 42, 180, 0, 20, 31, 184, 0, 63, 2, 160, 0, 15]
abbrev dktX3_isTold_0 : List UInt8 := dkwX3_isTold_0 ++ dktX3_isTold_1
theorem dksX3_isTold_0 : cX3_isTold.data.toList.drop 0 = dktX3_isTold_0 := by decide +kernel
theorem dksX3_isTold_1 : cX3_isTold.data.toList.drop 24 = dktX3_isTold_1 := dk_seg dksX3_isTold_0 24 rfl rfl
theorem dX3_isTold_0 : decode cX3_isTold 0 = .ok (.aload_n 0, 1) := dk_42 (dk_at dksX3_isTold_0 0 rfl rfl)
theorem dX3_isTold_1 : decode cX3_isTold 1 = .ok (.getfield 14, 3) := dk_180 0 14 (dk_at dksX3_isTold_0 1 rfl rfl)
theorem dX3_isTold_4 : decode cX3_isTold 4 = .ok (.lload_n 1, 1) := dk_31 (dk_at dksX3_isTold_0 4 rfl rfl)
theorem dX3_isTold_5 : decode cX3_isTold 5 = .ok (.invokestatic 63, 3) := dk_184 0 63 (dk_at dksX3_isTold_0 5 rfl rfl)
theorem dX3_isTold_8 : decode cX3_isTold 8 = .ok (.iconst (-1), 1) := dk_2 (dk_at dksX3_isTold_0 8 rfl rfl)
theorem dX3_isTold_9 : decode cX3_isTold 9 = .ok (.if_icmp .ne 27, 3) := dk_160 0 27 (dk_at dksX3_isTold_0 9 rfl rfl)
theorem dX3_isTold_12 : decode cX3_isTold 12 = .ok (.aload_n 0, 1) := dk_42 (dk_at dksX3_isTold_0 12 rfl rfl)
theorem dX3_isTold_13 : decode cX3_isTold 13 = .ok (.getfield 20, 3) := dk_180 0 20 (dk_at dksX3_isTold_0 13 rfl rfl)
theorem dX3_isTold_16 : decode cX3_isTold 16 = .ok (.lload_n 1, 1) := dk_31 (dk_at dksX3_isTold_0 16 rfl rfl)
theorem dX3_isTold_17 : decode cX3_isTold 17 = .ok (.invokestatic 63, 3) := dk_184 0 63 (dk_at dksX3_isTold_0 17 rfl rfl)
theorem dX3_isTold_20 : decode cX3_isTold 20 = .ok (.iconst (-1), 1) := dk_2 (dk_at dksX3_isTold_0 20 rfl rfl)
theorem dX3_isTold_21 : decode cX3_isTold 21 = .ok (.if_icmp .ne 15, 3) := dk_160 0 15 (dk_at dksX3_isTold_0 21 rfl rfl)
theorem dX3_isTold_24 : decode cX3_isTold 24 = .ok (.aload_n 0, 1) := dk_42 (dk_at dksX3_isTold_1 0 rfl rfl)
theorem dX3_isTold_25 : decode cX3_isTold 25 = .ok (.getfield 23, 3) := dk_180 0 23 (dk_at dksX3_isTold_1 1 rfl rfl)
theorem dX3_isTold_28 : decode cX3_isTold 28 = .ok (.lload_n 1, 1) := dk_31 (dk_at dksX3_isTold_1 4 rfl rfl)
theorem dX3_isTold_29 : decode cX3_isTold 29 = .ok (.invokestatic 63, 3) := dk_184 0 63 (dk_at dksX3_isTold_1 5 rfl rfl)
theorem dX3_isTold_32 : decode cX3_isTold 32 = .ok (.iconst (-1), 1) := dk_2 (dk_at dksX3_isTold_1 8 rfl rfl)
theorem dX3_isTold_33 : decode cX3_isTold 33 = .ok (.if_icmp .eq 7, 3) := dk_159 0 7 (dk_at dksX3_isTold_1 9 rfl rfl)
theorem dX3_isTold_36 : decode cX3_isTold 36 = .ok (.iconst 1, 1) := dk_4 (dk_at dksX3_isTold_1 12 rfl rfl)
theorem dX3_isTold_37 : decode cX3_isTold 37 = .ok (.goto 4, 3) := dk_167 0 4 (dk_at dksX3_isTold_1 13 rfl rfl)
theorem dX3_isTold_40 : decode cX3_isTold 40 = .ok (.iconst 0, 1) := dk_3 (dk_at dksX3_isTold_1 16 rfl rfl)
theorem dX3_isTold_41 : decode cX3_isTold 41 = .ok (.ireturn, 1) := dk_172 (dk_at dksX3_isTold_1 17 rfl rfl)
abbrev cX3_find : ByteArray := prog_17_method_2_code
def yX3_find : MethodName := ⟨RX3, "find", "(Ljava/util/ArrayList;J)I"⟩
def dkwX3_find_1 : List UInt8 := [154, 0, 5, 29, 172, 132, 3, 1, 167, 255, 227, 2, 172]
abbrev dktX3_find_1 : List UInt8 := dkwX3_find_1 ++ []
def dkwX3_find_0 : List UInt8 := [3, 62, 29, 42, 182, 0, 49, 162, 0, 27, 42, 29, 182, 0, 53, 192, 0, 57, 182, 0, 59, 31, 148]
abbrev dktX3_find_0 : List UInt8 := dkwX3_find_0 ++ dktX3_find_1
theorem dksX3_find_0 : cX3_find.data.toList.drop 0 = dktX3_find_0 := by decide +kernel
theorem dksX3_find_1 : cX3_find.data.toList.drop 23 = dktX3_find_1 := dk_seg dksX3_find_0 23 rfl rfl
theorem dX3_find_0 : decode cX3_find 0 = .ok (.iconst 0, 1) := dk_3 (dk_at dksX3_find_0 0 rfl rfl)
theorem dX3_find_1 : decode cX3_find 1 = .ok (.istore_n 3, 1) := dk_62 (dk_at dksX3_find_0 1 rfl rfl)
theorem dX3_find_2 : decode cX3_find 2 = .ok (.iload_n 3, 1) := dk_29 (dk_at dksX3_find_0 2 rfl rfl)
theorem dX3_find_3 : decode cX3_find 3 = .ok (.aload_n 0, 1) := dk_42 (dk_at dksX3_find_0 3 rfl rfl)
theorem dX3_find_4 : decode cX3_find 4 = .ok (.invokevirtual 49, 3) := dk_182 0 49 (dk_at dksX3_find_0 4 rfl rfl)
theorem dX3_find_7 : decode cX3_find 7 = .ok (.if_icmp .ge 27, 3) := dk_162 0 27 (dk_at dksX3_find_0 7 rfl rfl)
theorem dX3_find_10 : decode cX3_find 10 = .ok (.aload_n 0, 1) := dk_42 (dk_at dksX3_find_0 10 rfl rfl)
theorem dX3_find_11 : decode cX3_find 11 = .ok (.iload_n 3, 1) := dk_29 (dk_at dksX3_find_0 11 rfl rfl)
theorem dX3_find_12 : decode cX3_find 12 = .ok (.invokevirtual 53, 3) := dk_182 0 53 (dk_at dksX3_find_0 12 rfl rfl)
theorem dX3_find_15 : decode cX3_find 15 = .ok (.checkcast 57, 3) := dk_192 0 57 (dk_at dksX3_find_0 15 rfl rfl)
theorem dX3_find_18 : decode cX3_find 18 = .ok (.invokevirtual 59, 3) := dk_182 0 59 (dk_at dksX3_find_0 18 rfl rfl)
theorem dX3_find_21 : decode cX3_find 21 = .ok (.lload_n 1, 1) := dk_31 (dk_at dksX3_find_0 21 rfl rfl)
theorem dX3_find_22 : decode cX3_find 22 = .ok (.lcmp, 1) := dk_148 (dk_at dksX3_find_0 22 rfl rfl)
theorem dX3_find_23 : decode cX3_find 23 = .ok (.ifCond .ne 5, 3) := dk_154 0 5 (dk_at dksX3_find_1 0 rfl rfl)
theorem dX3_find_26 : decode cX3_find 26 = .ok (.iload_n 3, 1) := dk_29 (dk_at dksX3_find_1 3 rfl rfl)
theorem dX3_find_27 : decode cX3_find 27 = .ok (.ireturn, 1) := dk_172 (dk_at dksX3_find_1 4 rfl rfl)
theorem dX3_find_28 : decode cX3_find 28 = .ok (.iinc 3 1, 3) := dk_132 3 1 (dk_at dksX3_find_1 5 rfl rfl)
theorem dX3_find_31 : decode cX3_find 31 = .ok (.goto (-29), 3) := dk_167 255 227 (dk_at dksX3_find_1 8 rfl rfl)
theorem dX3_find_34 : decode cX3_find 34 = .ok (.iconst (-1), 1) := dk_2 (dk_at dksX3_find_1 11 rfl rfl)
theorem dX3_find_35 : decode cX3_find 35 = .ok (.ireturn, 1) := dk_172 (dk_at dksX3_find_1 12 rfl rfl)
abbrev cX3_so : ByteArray := prog_17_method_5_code
def yX3_so : MethodName := ⟨RX3, "so", "(LLiarsCock$Expression;)J"⟩
def dkwX3_so_1 : List UInt8 := [182, 0, 74, 153, 0, 10, 32, 10, 21, 4, 121, 129, 65, 132, 4, 1, 167, 255, 221, 32, 173]
abbrev dktX3_so_1 : List UInt8 := dkwX3_so_1 ++ []
def dkwX3_so_0 : List UInt8 := [9, 65, 3, 54, 4, 21, 4, 42, 182, 0, 67, 162, 0, 32, 43, 42, 180, 0, 45, 21, 4, 182, 0, 70]
abbrev dktX3_so_0 : List UInt8 := dkwX3_so_0 ++ dktX3_so_1
theorem dksX3_so_0 : cX3_so.data.toList.drop 0 = dktX3_so_0 := by decide +kernel
theorem dksX3_so_1 : cX3_so.data.toList.drop 24 = dktX3_so_1 := dk_seg dksX3_so_0 24 rfl rfl
theorem dX3_so_0 : decode cX3_so 0 = .ok (.lconst 0, 1) := dk_9 (dk_at dksX3_so_0 0 rfl rfl)
theorem dX3_so_1 : decode cX3_so 1 = .ok (.lstore_n 2, 1) := dk_65 (dk_at dksX3_so_0 1 rfl rfl)
theorem dX3_so_2 : decode cX3_so 2 = .ok (.iconst 0, 1) := dk_3 (dk_at dksX3_so_0 2 rfl rfl)
theorem dX3_so_3 : decode cX3_so 3 = .ok (.istore 4, 2) := dk_54 4 (dk_at dksX3_so_0 3 rfl rfl)
theorem dX3_so_5 : decode cX3_so 5 = .ok (.iload 4, 2) := dk_21 4 (dk_at dksX3_so_0 5 rfl rfl)
theorem dX3_so_7 : decode cX3_so 7 = .ok (.aload_n 0, 1) := dk_42 (dk_at dksX3_so_0 7 rfl rfl)
theorem dX3_so_8 : decode cX3_so 8 = .ok (.invokevirtual 67, 3) := dk_182 0 67 (dk_at dksX3_so_0 8 rfl rfl)
theorem dX3_so_11 : decode cX3_so 11 = .ok (.if_icmp .ge 32, 3) := dk_162 0 32 (dk_at dksX3_so_0 11 rfl rfl)
theorem dX3_so_14 : decode cX3_so 14 = .ok (.aload_n 1, 1) := dk_43 (dk_at dksX3_so_0 14 rfl rfl)
theorem dX3_so_15 : decode cX3_so 15 = .ok (.aload_n 0, 1) := dk_42 (dk_at dksX3_so_0 15 rfl rfl)
theorem dX3_so_16 : decode cX3_so 16 = .ok (.getfield 45, 3) := dk_180 0 45 (dk_at dksX3_so_0 16 rfl rfl)
theorem dX3_so_19 : decode cX3_so 19 = .ok (.iload 4, 2) := dk_21 4 (dk_at dksX3_so_0 19 rfl rfl)
theorem dX3_so_21 : decode cX3_so 21 = .ok (.invokevirtual 70, 3) := dk_182 0 70 (dk_at dksX3_so_0 21 rfl rfl)
theorem dX3_so_24 : decode cX3_so 24 = .ok (.invokevirtual 74, 3) := dk_182 0 74 (dk_at dksX3_so_1 0 rfl rfl)
theorem dX3_so_27 : decode cX3_so 27 = .ok (.ifCond .eq 10, 3) := dk_153 0 10 (dk_at dksX3_so_1 3 rfl rfl)
theorem dX3_so_30 : decode cX3_so 30 = .ok (.lload_n 2, 1) := dk_32 (dk_at dksX3_so_1 6 rfl rfl)
theorem dX3_so_31 : decode cX3_so 31 = .ok (.lconst 1, 1) := dk_10 (dk_at dksX3_so_1 7 rfl rfl)
theorem dX3_so_32 : decode cX3_so 32 = .ok (.iload 4, 2) := dk_21 4 (dk_at dksX3_so_1 8 rfl rfl)
theorem dX3_so_34 : decode cX3_so 34 = .ok (.lshl, 1) := dk_121 (dk_at dksX3_so_1 10 rfl rfl)
theorem dX3_so_35 : decode cX3_so 35 = .ok (.lor, 1) := dk_129 (dk_at dksX3_so_1 11 rfl rfl)
theorem dX3_so_36 : decode cX3_so 36 = .ok (.lstore_n 2, 1) := dk_65 (dk_at dksX3_so_1 12 rfl rfl)
theorem dX3_so_37 : decode cX3_so 37 = .ok (.iinc 4 1, 3) := dk_132 4 1 (dk_at dksX3_so_1 13 rfl rfl)
theorem dX3_so_40 : decode cX3_so 40 = .ok (.goto (-35), 3) := dk_167 255 221 (dk_at dksX3_so_1 16 rfl rfl)
theorem dX3_so_43 : decode cX3_so 43 = .ok (.lload_n 2, 1) := dk_32 (dk_at dksX3_so_1 19 rfl rfl)
theorem dX3_so_44 : decode cX3_so 44 = .ok (.lreturn, 1) := dk_173 (dk_at dksX3_so_1 20 rfl rfl)
abbrev cX3_worlds : ByteArray := prog_17_method_4_code
def yX3_worlds : MethodName := ⟨RX3, "worlds", "()I"⟩
def dkwX3_worlds_0 : List UInt8 := [4, 42, 180, 0, 14, 182, 0, 49, 120, 172]
abbrev dktX3_worlds_0 : List UInt8 := dkwX3_worlds_0 ++ []
theorem dksX3_worlds_0 : cX3_worlds.data.toList.drop 0 = dktX3_worlds_0 := by decide +kernel
theorem dX3_worlds_0 : decode cX3_worlds 0 = .ok (.iconst 1, 1) := dk_4 (dk_at dksX3_worlds_0 0 rfl rfl)
theorem dX3_worlds_1 : decode cX3_worlds 1 = .ok (.aload_n 0, 1) := dk_42 (dk_at dksX3_worlds_0 1 rfl rfl)
theorem dX3_worlds_2 : decode cX3_worlds 2 = .ok (.getfield 14, 3) := dk_180 0 14 (dk_at dksX3_worlds_0 2 rfl rfl)
theorem dX3_worlds_5 : decode cX3_worlds 5 = .ok (.invokevirtual 49, 3) := dk_182 0 49 (dk_at dksX3_worlds_0 5 rfl rfl)
theorem dX3_worlds_8 : decode cX3_worlds 8 = .ok (.ishl, 1) := dk_120 (dk_at dksX3_worlds_0 8 rfl rfl)
theorem dX3_worlds_9 : decode cX3_worlds 9 = .ok (.ireturn, 1) := dk_172 (dk_at dksX3_worlds_0 9 rfl rfl)
abbrev cX3_known : ByteArray := prog_17_method_7_code
def yX3_known : MethodName := ⟨RX3, "known", "(JI)J"⟩
def dkwX3_known_2 : List UInt8 := [167, 255, 216, 22, 4, 173]
abbrev dktX3_known_2 : List UInt8 := dkwX3_known_2 ++ []
def dkwX3_known_1 : List UInt8 := [180, 0, 83, 127, 31, 127, 9, 148, 154, 0, 12, 22, 4, 10, 21, 6, 121, 129, 55, 4, 132, 6, 1]
abbrev dktX3_known_1 : List UInt8 := dkwX3_known_1 ++ dktX3_known_2
def dkwX3_known_0 : List UInt8 := [9, 55, 4, 3, 54, 6, 21, 6, 42, 182, 0, 67, 162, 0, 37, 42, 21, 6, 29, 182, 0, 79, 42]
abbrev dktX3_known_0 : List UInt8 := dkwX3_known_0 ++ dktX3_known_1
theorem dksX3_known_0 : cX3_known.data.toList.drop 0 = dktX3_known_0 := by decide +kernel
theorem dksX3_known_1 : cX3_known.data.toList.drop 23 = dktX3_known_1 := dk_seg dksX3_known_0 23 rfl rfl
theorem dksX3_known_2 : cX3_known.data.toList.drop 46 = dktX3_known_2 := dk_seg dksX3_known_1 23 rfl rfl
theorem dX3_known_0 : decode cX3_known 0 = .ok (.lconst 0, 1) := dk_9 (dk_at dksX3_known_0 0 rfl rfl)
theorem dX3_known_1 : decode cX3_known 1 = .ok (.lstore 4, 2) := dk_55 4 (dk_at dksX3_known_0 1 rfl rfl)
theorem dX3_known_3 : decode cX3_known 3 = .ok (.iconst 0, 1) := dk_3 (dk_at dksX3_known_0 3 rfl rfl)
theorem dX3_known_4 : decode cX3_known 4 = .ok (.istore 6, 2) := dk_54 6 (dk_at dksX3_known_0 4 rfl rfl)
theorem dX3_known_6 : decode cX3_known 6 = .ok (.iload 6, 2) := dk_21 6 (dk_at dksX3_known_0 6 rfl rfl)
theorem dX3_known_8 : decode cX3_known 8 = .ok (.aload_n 0, 1) := dk_42 (dk_at dksX3_known_0 8 rfl rfl)
theorem dX3_known_9 : decode cX3_known 9 = .ok (.invokevirtual 67, 3) := dk_182 0 67 (dk_at dksX3_known_0 9 rfl rfl)
theorem dX3_known_12 : decode cX3_known 12 = .ok (.if_icmp .ge 37, 3) := dk_162 0 37 (dk_at dksX3_known_0 12 rfl rfl)
theorem dX3_known_15 : decode cX3_known 15 = .ok (.aload_n 0, 1) := dk_42 (dk_at dksX3_known_0 15 rfl rfl)
theorem dX3_known_16 : decode cX3_known 16 = .ok (.iload 6, 2) := dk_21 6 (dk_at dksX3_known_0 16 rfl rfl)
theorem dX3_known_18 : decode cX3_known 18 = .ok (.iload_n 3, 1) := dk_29 (dk_at dksX3_known_0 18 rfl rfl)
theorem dX3_known_19 : decode cX3_known 19 = .ok (.invokevirtual 79, 3) := dk_182 0 79 (dk_at dksX3_known_0 19 rfl rfl)
theorem dX3_known_22 : decode cX3_known 22 = .ok (.aload_n 0, 1) := dk_42 (dk_at dksX3_known_0 22 rfl rfl)
theorem dX3_known_23 : decode cX3_known 23 = .ok (.getfield 83, 3) := dk_180 0 83 (dk_at dksX3_known_1 0 rfl rfl)
theorem dX3_known_26 : decode cX3_known 26 = .ok (.land, 1) := dk_127 (dk_at dksX3_known_1 3 rfl rfl)
theorem dX3_known_27 : decode cX3_known 27 = .ok (.lload_n 1, 1) := dk_31 (dk_at dksX3_known_1 4 rfl rfl)
theorem dX3_known_28 : decode cX3_known 28 = .ok (.land, 1) := dk_127 (dk_at dksX3_known_1 5 rfl rfl)
theorem dX3_known_29 : decode cX3_known 29 = .ok (.lconst 0, 1) := dk_9 (dk_at dksX3_known_1 6 rfl rfl)
theorem dX3_known_30 : decode cX3_known 30 = .ok (.lcmp, 1) := dk_148 (dk_at dksX3_known_1 7 rfl rfl)
theorem dX3_known_31 : decode cX3_known 31 = .ok (.ifCond .ne 12, 3) := dk_154 0 12 (dk_at dksX3_known_1 8 rfl rfl)
theorem dX3_known_34 : decode cX3_known 34 = .ok (.lload 4, 2) := dk_22 4 (dk_at dksX3_known_1 11 rfl rfl)
theorem dX3_known_36 : decode cX3_known 36 = .ok (.lconst 1, 1) := dk_10 (dk_at dksX3_known_1 13 rfl rfl)
theorem dX3_known_37 : decode cX3_known 37 = .ok (.iload 6, 2) := dk_21 6 (dk_at dksX3_known_1 14 rfl rfl)
theorem dX3_known_39 : decode cX3_known 39 = .ok (.lshl, 1) := dk_121 (dk_at dksX3_known_1 16 rfl rfl)
theorem dX3_known_40 : decode cX3_known 40 = .ok (.lor, 1) := dk_129 (dk_at dksX3_known_1 17 rfl rfl)
theorem dX3_known_41 : decode cX3_known 41 = .ok (.lstore 4, 2) := dk_55 4 (dk_at dksX3_known_1 18 rfl rfl)
theorem dX3_known_43 : decode cX3_known 43 = .ok (.iinc 6 1, 3) := dk_132 6 1 (dk_at dksX3_known_1 20 rfl rfl)
theorem dX3_known_46 : decode cX3_known 46 = .ok (.goto (-40), 3) := dk_167 255 216 (dk_at dksX3_known_2 0 rfl rfl)
theorem dX3_known_49 : decode cX3_known 49 = .ok (.lload 4, 2) := dk_22 4 (dk_at dksX3_known_2 3 rfl rfl)
theorem dX3_known_51 : decode cX3_known 51 = .ok (.lreturn, 1) := dk_173 (dk_at dksX3_known_2 5 rfl rfl)
abbrev cX3_alike : ByteArray := prog_17_method_6_code
def yX3_alike : MethodName := ⟨RX3, "alike", "(II)J"⟩
def dkwX3_alike_1 : List UInt8 := [10, 21, 5, 121, 129, 66, 132, 5, 1, 167, 255, 228, 33, 173]
abbrev dktX3_alike_1 : List UInt8 := dkwX3_alike_1 ++ []
def dkwX3_alike_0 : List UInt8 := [9, 66, 3, 54, 5, 21, 5, 42, 182, 0, 67, 162, 0, 25, 21, 5, 27, 130, 28, 126, 154, 0, 10, 33]
abbrev dktX3_alike_0 : List UInt8 := dkwX3_alike_0 ++ dktX3_alike_1
theorem dksX3_alike_0 : cX3_alike.data.toList.drop 0 = dktX3_alike_0 := by decide +kernel
theorem dksX3_alike_1 : cX3_alike.data.toList.drop 24 = dktX3_alike_1 := dk_seg dksX3_alike_0 24 rfl rfl
theorem dX3_alike_0 : decode cX3_alike 0 = .ok (.lconst 0, 1) := dk_9 (dk_at dksX3_alike_0 0 rfl rfl)
theorem dX3_alike_1 : decode cX3_alike 1 = .ok (.lstore_n 3, 1) := dk_66 (dk_at dksX3_alike_0 1 rfl rfl)
theorem dX3_alike_2 : decode cX3_alike 2 = .ok (.iconst 0, 1) := dk_3 (dk_at dksX3_alike_0 2 rfl rfl)
theorem dX3_alike_3 : decode cX3_alike 3 = .ok (.istore 5, 2) := dk_54 5 (dk_at dksX3_alike_0 3 rfl rfl)
theorem dX3_alike_5 : decode cX3_alike 5 = .ok (.iload 5, 2) := dk_21 5 (dk_at dksX3_alike_0 5 rfl rfl)
theorem dX3_alike_7 : decode cX3_alike 7 = .ok (.aload_n 0, 1) := dk_42 (dk_at dksX3_alike_0 7 rfl rfl)
theorem dX3_alike_8 : decode cX3_alike 8 = .ok (.invokevirtual 67, 3) := dk_182 0 67 (dk_at dksX3_alike_0 8 rfl rfl)
theorem dX3_alike_11 : decode cX3_alike 11 = .ok (.if_icmp .ge 25, 3) := dk_162 0 25 (dk_at dksX3_alike_0 11 rfl rfl)
theorem dX3_alike_14 : decode cX3_alike 14 = .ok (.iload 5, 2) := dk_21 5 (dk_at dksX3_alike_0 14 rfl rfl)
theorem dX3_alike_16 : decode cX3_alike 16 = .ok (.iload_n 1, 1) := dk_27 (dk_at dksX3_alike_0 16 rfl rfl)
theorem dX3_alike_17 : decode cX3_alike 17 = .ok (.ixor, 1) := dk_130 (dk_at dksX3_alike_0 17 rfl rfl)
theorem dX3_alike_18 : decode cX3_alike 18 = .ok (.iload_n 2, 1) := dk_28 (dk_at dksX3_alike_0 18 rfl rfl)
theorem dX3_alike_19 : decode cX3_alike 19 = .ok (.iand, 1) := dk_126 (dk_at dksX3_alike_0 19 rfl rfl)
theorem dX3_alike_20 : decode cX3_alike 20 = .ok (.ifCond .ne 10, 3) := dk_154 0 10 (dk_at dksX3_alike_0 20 rfl rfl)
theorem dX3_alike_23 : decode cX3_alike 23 = .ok (.lload_n 3, 1) := dk_33 (dk_at dksX3_alike_0 23 rfl rfl)
theorem dX3_alike_24 : decode cX3_alike 24 = .ok (.lconst 1, 1) := dk_10 (dk_at dksX3_alike_1 0 rfl rfl)
theorem dX3_alike_25 : decode cX3_alike 25 = .ok (.iload 5, 2) := dk_21 5 (dk_at dksX3_alike_1 1 rfl rfl)
theorem dX3_alike_27 : decode cX3_alike 27 = .ok (.lshl, 1) := dk_121 (dk_at dksX3_alike_1 3 rfl rfl)
theorem dX3_alike_28 : decode cX3_alike 28 = .ok (.lor, 1) := dk_129 (dk_at dksX3_alike_1 4 rfl rfl)
theorem dX3_alike_29 : decode cX3_alike 29 = .ok (.lstore_n 3, 1) := dk_66 (dk_at dksX3_alike_1 5 rfl rfl)
theorem dX3_alike_30 : decode cX3_alike 30 = .ok (.iinc 5 1, 3) := dk_132 5 1 (dk_at dksX3_alike_1 6 rfl rfl)
theorem dX3_alike_33 : decode cX3_alike 33 = .ok (.goto (-28), 3) := dk_167 255 228 (dk_at dksX3_alike_1 9 rfl rfl)
theorem dX3_alike_36 : decode cX3_alike 36 = .ok (.lload_n 3, 1) := dk_33 (dk_at dksX3_alike_1 12 rfl rfl)
theorem dX3_alike_37 : decode cX3_alike 37 = .ok (.lreturn, 1) := dk_173 (dk_at dksX3_alike_1 13 rfl rfl)
abbrev cX3_bearing : ByteArray := prog_17_method_8_code
def yX3_bearing : MethodName := ⟨RX3, "bearing", "(I)I"⟩
def dkwX3_bearing_1 : List UInt8 := [180, 0, 89, 46, 172]
abbrev dktX3_bearing_1 : List UInt8 := dkwX3_bearing_1 ++ []
def dkwX3_bearing_0 : List UInt8 := [27, 2, 160, 0, 7, 3, 167, 0, 22, 42, 180, 0, 33, 42, 180, 0, 26, 27, 182, 0, 53, 192, 0, 87]
abbrev dktX3_bearing_0 : List UInt8 := dkwX3_bearing_0 ++ dktX3_bearing_1
theorem dksX3_bearing_0 : cX3_bearing.data.toList.drop 0 = dktX3_bearing_0 := by decide +kernel
theorem dksX3_bearing_1 : cX3_bearing.data.toList.drop 24 = dktX3_bearing_1 := dk_seg dksX3_bearing_0 24 rfl rfl
theorem dX3_bearing_0 : decode cX3_bearing 0 = .ok (.iload_n 1, 1) := dk_27 (dk_at dksX3_bearing_0 0 rfl rfl)
theorem dX3_bearing_1 : decode cX3_bearing 1 = .ok (.iconst (-1), 1) := dk_2 (dk_at dksX3_bearing_0 1 rfl rfl)
theorem dX3_bearing_2 : decode cX3_bearing 2 = .ok (.if_icmp .ne 7, 3) := dk_160 0 7 (dk_at dksX3_bearing_0 2 rfl rfl)
theorem dX3_bearing_5 : decode cX3_bearing 5 = .ok (.iconst 0, 1) := dk_3 (dk_at dksX3_bearing_0 5 rfl rfl)
theorem dX3_bearing_6 : decode cX3_bearing 6 = .ok (.goto 22, 3) := dk_167 0 22 (dk_at dksX3_bearing_0 6 rfl rfl)
theorem dX3_bearing_9 : decode cX3_bearing 9 = .ok (.aload_n 0, 1) := dk_42 (dk_at dksX3_bearing_0 9 rfl rfl)
theorem dX3_bearing_10 : decode cX3_bearing 10 = .ok (.getfield 33, 3) := dk_180 0 33 (dk_at dksX3_bearing_0 10 rfl rfl)
theorem dX3_bearing_13 : decode cX3_bearing 13 = .ok (.aload_n 0, 1) := dk_42 (dk_at dksX3_bearing_0 13 rfl rfl)
theorem dX3_bearing_14 : decode cX3_bearing 14 = .ok (.getfield 26, 3) := dk_180 0 26 (dk_at dksX3_bearing_0 14 rfl rfl)
theorem dX3_bearing_17 : decode cX3_bearing 17 = .ok (.iload_n 1, 1) := dk_27 (dk_at dksX3_bearing_0 17 rfl rfl)
theorem dX3_bearing_18 : decode cX3_bearing 18 = .ok (.invokevirtual 53, 3) := dk_182 0 53 (dk_at dksX3_bearing_0 18 rfl rfl)
theorem dX3_bearing_21 : decode cX3_bearing 21 = .ok (.checkcast 87, 3) := dk_192 0 87 (dk_at dksX3_bearing_0 21 rfl rfl)
theorem dX3_bearing_24 : decode cX3_bearing 24 = .ok (.getfield 89, 3) := dk_180 0 89 (dk_at dksX3_bearing_1 0 rfl rfl)
theorem dX3_bearing_27 : decode cX3_bearing 27 = .ok (.iaload, 1) := dk_46 (dk_at dksX3_bearing_1 3 rfl rfl)
theorem dX3_bearing_28 : decode cX3_bearing 28 = .ok (.ireturn, 1) := dk_172 (dk_at dksX3_bearing_1 4 rfl rfl)
theorem q121 : (Jvm.Cond.initialized "LiarsCock$Parish") ∈ lw_all := lw_g (lw_at lw_m1 3 rfl) rfl
theorem q232 : (Jvm.Cond.instantiable "LiarsCock$Parish" (10 : Nat)) ∈ lw_all := lw_g (lw_at lw_m1 114 rfl) rfl
theorem q234 : (Jvm.Cond.instanceMethod ({ cls := "LiarsCock$Parish", name := "<init>", desc := "()V" } : Jvm.MethodName)) ∈ lw_all := lw_g (lw_at lw_m1 116 rfl) rfl
theorem q235 : (Jvm.Cond.code ({ cls := "LiarsCock$Parish", name := "<init>", desc := "()V" } : Jvm.MethodName) prog_17_method_1_code (1 : Nat) (Option.none : Option Jvm.ClassFile.FieldType)) ∈ lw_all := lw_g (lw_at lw_m1 117 rfl) rfl
theorem q236 : (Jvm.Cond.methodLink "LiarsCock$Parish" (3 : Nat) ({ cls := "java/lang/Object", name := "<init>", desc := "()V" } : Jvm.MethodName)) ∈ lw_all := lw_g (lw_at lw_m1 118 rfl) rfl
theorem q237 : (Jvm.Cond.classLink "LiarsCock$Parish" (9 : Nat) "java/util/ArrayList") ∈ lw_all := lw_g (lw_at lw_m1 119 rfl) rfl
theorem q239 : (Jvm.Cond.methodLink "LiarsCock$Parish" (11 : Nat) ({ cls := "java/util/ArrayList", name := "<init>", desc := "(I)V" } : Jvm.MethodName)) ∈ lw_all := lw_g (lw_at lw_m1 121 rfl) rfl
theorem q265 : (Jvm.Cond.classLink "LiarsCock$Parish" (36 : Nat) "LiarsCock$Cock") ∈ lw_all := lw_g (lw_at lw_m1 147 rfl) rfl
theorem q267 : (Jvm.Cond.classLink "LiarsCock$Parish" (42 : Nat) "LiarsCock$Facts") ∈ lw_all := lw_g (lw_at lw_m1 149 rfl) rfl
theorem q269 : (Jvm.Cond.methodLinkNest "LiarsCock$Parish" (44 : Nat) ({ cls := "LiarsCock$Facts", name := "<init>", desc := "()V" } : Jvm.MethodName) "LiarsCock") ∈ lw_tbl := lw_at lw_m1 151 rfl
theorem q278 : (Jvm.Cond.fieldLink "LiarsCock$Parish" (14 : Nat) "LiarsCock$Parish" "facts" "Ljava/util/ArrayList;") ∈ lw_all := lw_g (lw_at lw_m1 160 rfl) rfl
theorem q281 : (Jvm.Cond.fieldLink "LiarsCock$Parish" (20 : Nat) "LiarsCock$Parish" "places" "Ljava/util/ArrayList;") ∈ lw_all := lw_g (lw_at lw_m1 163 rfl) rfl
theorem q284 : (Jvm.Cond.fieldLink "LiarsCock$Parish" (23 : Nat) "LiarsCock$Parish" "names" "Ljava/util/ArrayList;") ∈ lw_all := lw_g (lw_at lw_m1 166 rfl) rfl
theorem q286 : (Jvm.Cond.fieldLink "LiarsCock$Parish" (26 : Nat) "LiarsCock$Parish" "people" "Ljava/util/ArrayList;") ∈ lw_all := lw_g (lw_at lw_m1 168 rfl) rfl
theorem q290 : (Jvm.Cond.fieldLink "LiarsCock$Parish" (29 : Nat) "LiarsCock$Parish" "chances" "[I") ∈ lw_all := lw_g (lw_at lw_m1 172 rfl) rfl
theorem q293 : (Jvm.Cond.fieldLink "LiarsCock$Parish" (33 : Nat) "LiarsCock$Parish" "bearings" "[I") ∈ lw_all := lw_g (lw_at lw_m1 175 rfl) rfl
theorem q295 : (Jvm.Cond.fieldLink "LiarsCock$Parish" (38 : Nat) "LiarsCock$Parish" "cocks" "[LLiarsCock$Cock;") ∈ lw_all := lw_g (lw_at lw_m1 177 rfl) rfl
theorem q302 : (Jvm.Cond.fieldLink "LiarsCock$Parish" (83 : Nat) "LiarsCock$Parish" "common" "J") ∈ lw_all := lw_g (lw_at lw_m1 184 rfl) rfl
theorem q304 : (Jvm.Cond.fieldLink "LiarsCock$Parish" (45 : Nat) "LiarsCock$Parish" "laid" "LLiarsCock$Facts;") ∈ lw_all := lw_g (lw_at lw_m1 186 rfl) rfl
theorem q305 : (Jvm.Cond.laysFinal "LiarsCock$Parish" "LiarsCock$Parish" "facts" "Ljava/util/ArrayList;") ∈ lw_all := lw_g (lw_at lw_m1 187 rfl) rfl
theorem q306 : (Jvm.Cond.soleField "LiarsCock$Parish" "facts") ∈ lw_all := lw_g (lw_at lw_m1 188 rfl) rfl
theorem q307 : (Jvm.Cond.laysFinal "LiarsCock$Parish" "LiarsCock$Parish" "places" "Ljava/util/ArrayList;") ∈ lw_all := lw_g (lw_at lw_m1 189 rfl) rfl
theorem q308 : (Jvm.Cond.soleField "LiarsCock$Parish" "places") ∈ lw_all := lw_g (lw_at lw_m1 190 rfl) rfl
theorem q309 : (Jvm.Cond.laysFinal "LiarsCock$Parish" "LiarsCock$Parish" "names" "Ljava/util/ArrayList;") ∈ lw_all := lw_g (lw_at lw_m1 191 rfl) rfl
theorem q310 : (Jvm.Cond.soleField "LiarsCock$Parish" "names") ∈ lw_all := lw_g (lw_at lw_m1 192 rfl) rfl
theorem q311 : (Jvm.Cond.laysFinal "LiarsCock$Parish" "LiarsCock$Parish" "people" "Ljava/util/ArrayList;") ∈ lw_all := lw_g (lw_at lw_m1 193 rfl) rfl
theorem q312 : (Jvm.Cond.soleField "LiarsCock$Parish" "people") ∈ lw_all := lw_g (lw_at lw_m1 194 rfl) rfl
theorem q313 : (Jvm.Cond.laysFinal "LiarsCock$Parish" "LiarsCock$Parish" "chances" "[I") ∈ lw_all := lw_g (lw_at lw_m1 195 rfl) rfl
theorem q314 : (Jvm.Cond.soleField "LiarsCock$Parish" "chances") ∈ lw_all := lw_g (lw_at lw_m1 196 rfl) rfl
theorem q315 : (Jvm.Cond.laysFinal "LiarsCock$Parish" "LiarsCock$Parish" "bearings" "[I") ∈ lw_all := lw_g (lw_at lw_m1 197 rfl) rfl
theorem q316 : (Jvm.Cond.soleField "LiarsCock$Parish" "bearings") ∈ lw_all := lw_g (lw_at lw_m1 198 rfl) rfl
theorem q317 : (Jvm.Cond.laysFinal "LiarsCock$Parish" "LiarsCock$Parish" "cocks" "[LLiarsCock$Cock;") ∈ lw_all := lw_g (lw_at lw_m1 199 rfl) rfl
theorem q318 : (Jvm.Cond.soleField "LiarsCock$Parish" "cocks") ∈ lw_all := lw_g (lw_at lw_m1 200 rfl) rfl
theorem q319 : (Jvm.Cond.lays "LiarsCock$Parish" "LiarsCock$Parish" "commons" "I") ∈ lw_all := lw_g (lw_at lw_m1 201 rfl) rfl
theorem q320 : (Jvm.Cond.soleField "LiarsCock$Parish" "commons") ∈ lw_all := lw_g (lw_at lw_m1 202 rfl) rfl
theorem q321 : (Jvm.Cond.lays "LiarsCock$Parish" "LiarsCock$Parish" "common" "J") ∈ lw_all := lw_g (lw_at lw_m1 203 rfl) rfl
theorem q322 : (Jvm.Cond.soleField "LiarsCock$Parish" "common") ∈ lw_all := lw_g (lw_at lw_m1 204 rfl) rfl
theorem q323 : (Jvm.Cond.laysFinal "LiarsCock$Parish" "LiarsCock$Parish" "laid" "LLiarsCock$Facts;") ∈ lw_all := lw_g (lw_at lw_m1 205 rfl) rfl
theorem q324 : (Jvm.Cond.soleField "LiarsCock$Parish" "laid") ∈ lw_all := lw_g (lw_at lw_m1 206 rfl) rfl
theorem q325 : (Jvm.Cond.superclass "LiarsCock$Parish" "java/lang/Object") ∈ lw_all := lw_g (lw_at lw_m1 207 rfl) rfl
theorem q699 : (Jvm.Cond.instanceMethod ({ cls := "LiarsCock$Parish", name := "isTold", desc := "(J)Z" } : Jvm.MethodName)) ∈ lw_all := lw_g (lw_at lw_m3 101 rfl) rfl
theorem q700 : (Jvm.Cond.selects "LiarsCock$Parish" ({ cls := "LiarsCock$Parish", name := "isTold", desc := "(J)Z" } : Jvm.MethodName) ({ cls := "LiarsCock$Parish", name := "isTold", desc := "(J)Z" } : Jvm.MethodName)) ∈ lw_all := lw_g (lw_at lw_m3 102 rfl) rfl
theorem q701 : (Jvm.Cond.code ({ cls := "LiarsCock$Parish", name := "isTold", desc := "(J)Z" } : Jvm.MethodName) prog_17_method_3_code (3 : Nat) (Option.some Jvm.ClassFile.FieldType.boolean)) ∈ lw_all := lw_g (lw_at lw_m3 103 rfl) rfl
theorem q702 : (Jvm.Cond.methodLink "LiarsCock$Parish" (63 : Nat) ({ cls := "LiarsCock$Parish", name := "find", desc := "(Ljava/util/ArrayList;J)I" } : Jvm.MethodName)) ∈ lw_all := lw_g (lw_at lw_m3 104 rfl) rfl
theorem q703 : (Jvm.Cond.static ({ cls := "LiarsCock$Parish", name := "find", desc := "(Ljava/util/ArrayList;J)I" } : Jvm.MethodName)) ∈ lw_all := lw_g (lw_at lw_m3 105 rfl) rfl
theorem q704 : (Jvm.Cond.code ({ cls := "LiarsCock$Parish", name := "find", desc := "(Ljava/util/ArrayList;J)I" } : Jvm.MethodName) prog_17_method_2_code (4 : Nat) (Option.some Jvm.ClassFile.FieldType.int)) ∈ lw_all := lw_g (lw_at lw_m3 106 rfl) rfl
theorem q705 : (Jvm.Cond.methodLink "LiarsCock$Parish" (49 : Nat) ({ cls := "java/util/ArrayList", name := "size", desc := "()I" } : Jvm.MethodName)) ∈ lw_all := lw_g (lw_at lw_m3 107 rfl) rfl
theorem q706 : (Jvm.Cond.methodLink "LiarsCock$Parish" (53 : Nat) ({ cls := "java/util/ArrayList", name := "get", desc := "(I)Ljava/lang/Object;" } : Jvm.MethodName)) ∈ lw_all := lw_g (lw_at lw_m3 108 rfl) rfl
theorem q718 : (Jvm.Cond.classLink "LiarsCock$Parish" (57 : Nat) "java/lang/Long") ∈ lw_all := lw_g (lw_at lw_m3 120 rfl) rfl
theorem q719 : (Jvm.Cond.methodLink "LiarsCock$Parish" (59 : Nat) ({ cls := "java/lang/Long", name := "longValue", desc := "()J" } : Jvm.MethodName)) ∈ lw_all := lw_g (lw_at lw_m3 121 rfl) rfl
theorem q791 : (Jvm.Cond.selects "LiarsCock$Parish" ({ cls := "java/lang/Object", name := "getClass", desc := "()Ljava/lang/Class;" } : Jvm.MethodName) ({ cls := "java/lang/Object", name := "getClass", desc := "()Ljava/lang/Class;" } : Jvm.MethodName)) ∈ lw_all := lw_g (lw_at lw_m3 193 rfl) rfl
theorem q844 : (Jvm.Cond.fieldLink "LiarsCock$Parish" (89 : Nat) "LiarsCock$Person" "place" "I") ∈ lw_all := lw_g (lw_at lw_m4 6 rfl) rfl
theorem q1018 : (Jvm.Cond.instanceMethod ({ cls := "LiarsCock$Parish", name := "so", desc := "(LLiarsCock$Expression;)J" } : Jvm.MethodName)) ∈ lw_all := lw_g (lw_at lw_m4 180 rfl) rfl
theorem q1019 : (Jvm.Cond.selects "LiarsCock$Parish" ({ cls := "LiarsCock$Parish", name := "so", desc := "(LLiarsCock$Expression;)J" } : Jvm.MethodName) ({ cls := "LiarsCock$Parish", name := "so", desc := "(LLiarsCock$Expression;)J" } : Jvm.MethodName)) ∈ lw_all := lw_g (lw_at lw_m4 181 rfl) rfl
theorem q1020 : (Jvm.Cond.code ({ cls := "LiarsCock$Parish", name := "so", desc := "(LLiarsCock$Expression;)J" } : Jvm.MethodName) prog_17_method_5_code (5 : Nat) (Option.some Jvm.ClassFile.FieldType.long)) ∈ lw_all := lw_g (lw_at lw_m4 182 rfl) rfl
theorem q1021 : (Jvm.Cond.methodLink "LiarsCock$Parish" (67 : Nat) ({ cls := "LiarsCock$Parish", name := "worlds", desc := "()I" } : Jvm.MethodName)) ∈ lw_all := lw_g (lw_at lw_m4 183 rfl) rfl
theorem q1022 : (Jvm.Cond.instanceMethod ({ cls := "LiarsCock$Parish", name := "worlds", desc := "()I" } : Jvm.MethodName)) ∈ lw_all := lw_g (lw_at lw_m4 184 rfl) rfl
theorem q1023 : (Jvm.Cond.selects "LiarsCock$Parish" ({ cls := "LiarsCock$Parish", name := "worlds", desc := "()I" } : Jvm.MethodName) ({ cls := "LiarsCock$Parish", name := "worlds", desc := "()I" } : Jvm.MethodName)) ∈ lw_all := lw_g (lw_at lw_m4 185 rfl) rfl
theorem q1024 : (Jvm.Cond.code ({ cls := "LiarsCock$Parish", name := "worlds", desc := "()I" } : Jvm.MethodName) prog_17_method_4_code (1 : Nat) (Option.some Jvm.ClassFile.FieldType.int)) ∈ lw_all := lw_g (lw_at lw_m4 186 rfl) rfl
theorem q1025 : (Jvm.Cond.methodLink "LiarsCock$Parish" (70 : Nat) ({ cls := "LiarsCock$Facts", name := "of", desc := "(I)LLiarsCock$Facts;" } : Jvm.MethodName)) ∈ lw_all := lw_g (lw_at lw_m4 187 rfl) rfl
theorem q1030 : (Jvm.Cond.methodLink "LiarsCock$Parish" (74 : Nat) ({ cls := "LiarsCock$Expression", name := "of", desc := "(LLiarsCock$Facts;)I" } : Jvm.MethodName)) ∈ lw_all := lw_g (lw_at lw_m4 192 rfl) rfl
theorem q1144 : (Jvm.Cond.instanceMethod ({ cls := "LiarsCock$Parish", name := "known", desc := "(JI)J" } : Jvm.MethodName)) ∈ lw_all := lw_g (lw_at lw_m5 66 rfl) rfl
theorem q1145 : (Jvm.Cond.selects "LiarsCock$Parish" ({ cls := "LiarsCock$Parish", name := "known", desc := "(JI)J" } : Jvm.MethodName) ({ cls := "LiarsCock$Parish", name := "known", desc := "(JI)J" } : Jvm.MethodName)) ∈ lw_all := lw_g (lw_at lw_m5 67 rfl) rfl
theorem q1146 : (Jvm.Cond.code ({ cls := "LiarsCock$Parish", name := "known", desc := "(JI)J" } : Jvm.MethodName) prog_17_method_7_code (7 : Nat) (Option.some Jvm.ClassFile.FieldType.long)) ∈ lw_all := lw_g (lw_at lw_m5 68 rfl) rfl
theorem q1147 : (Jvm.Cond.methodLink "LiarsCock$Parish" (79 : Nat) ({ cls := "LiarsCock$Parish", name := "alike", desc := "(II)J" } : Jvm.MethodName)) ∈ lw_all := lw_g (lw_at lw_m5 69 rfl) rfl
theorem q1148 : (Jvm.Cond.instanceMethod ({ cls := "LiarsCock$Parish", name := "alike", desc := "(II)J" } : Jvm.MethodName)) ∈ lw_all := lw_g (lw_at lw_m5 70 rfl) rfl
theorem q1149 : (Jvm.Cond.selects "LiarsCock$Parish" ({ cls := "LiarsCock$Parish", name := "alike", desc := "(II)J" } : Jvm.MethodName) ({ cls := "LiarsCock$Parish", name := "alike", desc := "(II)J" } : Jvm.MethodName)) ∈ lw_all := lw_g (lw_at lw_m5 71 rfl) rfl
theorem q1150 : (Jvm.Cond.code ({ cls := "LiarsCock$Parish", name := "alike", desc := "(II)J" } : Jvm.MethodName) prog_17_method_6_code (6 : Nat) (Option.some Jvm.ClassFile.FieldType.long)) ∈ lw_all := lw_g (lw_at lw_m5 72 rfl) rfl
theorem q1262 : (Jvm.Cond.instanceMethod ({ cls := "LiarsCock$Parish", name := "bearing", desc := "(I)I" } : Jvm.MethodName)) ∈ lw_all := lw_g (lw_at lw_m5 184 rfl) rfl
theorem q1263 : (Jvm.Cond.selects "LiarsCock$Parish" ({ cls := "LiarsCock$Parish", name := "bearing", desc := "(I)I" } : Jvm.MethodName) ({ cls := "LiarsCock$Parish", name := "bearing", desc := "(I)I" } : Jvm.MethodName)) ∈ lw_all := lw_g (lw_at lw_m5 185 rfl) rfl
theorem q1264 : (Jvm.Cond.code ({ cls := "LiarsCock$Parish", name := "bearing", desc := "(I)I" } : Jvm.MethodName) prog_17_method_8_code (2 : Nat) (Option.some Jvm.ClassFile.FieldType.int)) ∈ lw_all := lw_g (lw_at lw_m5 186 rfl) rfl
theorem q1265 : (Jvm.Cond.classLink "LiarsCock$Parish" (87 : Nat) "LiarsCock$Person") ∈ lw_all := lw_g (lw_at lw_m5 187 rfl) rfl
theorem q2261 : (Jvm.Cond.castable "LiarsCock$Parish" "java/lang/Object") ∈ lw_tbl := lw_at lw_m9 223 rfl
theorem in_X3 : ∀ w ∈ wsX30, w ∈ lw_all := lw_in wsX30 [305, 307, 309, 311, 313, 315, 317, 319, 321, 323] (by decide +kernel) (by decide +kernel)

/-! LiarsCock$Facts -/
set_option maxRecDepth 100000
def RX4 : String := "LiarsCock$Facts"
def TX4 : u_T := fun k => match k with
  | _ => ("LiarsCock$Facts", "of", "[I", true)
def tyX4 : Nat → FieldType := fun k => match k with
  | _ => .array .int
abbrev wsX40 : List Cond := u_ws RX4 TX4 1
theorem nmX4 : ∀ a, a < 1 → ∀ b, b < 1 → a ≠ b → (TX4 a).2.1 ≠ (TX4 b).2.1 := by decide +kernel
theorem tyX4_ok : ∀ k, k < 1 → parseFieldDescriptor (TX4 k).2.2.1 = some (tyX4 k) := by decide +kernel
abbrev cX4_init : ByteArray := prog_8_method_1_code
def yX4_init : MethodName := ⟨RX4, "<init>", "()V"⟩
def dkwX4_init_0 : List UInt8 := [42, 183, 0, 3, 42, 16, 6, 188, 10, 181, 0, 9, 177]
abbrev dktX4_init_0 : List UInt8 := dkwX4_init_0 ++ []
theorem dksX4_init_0 : cX4_init.data.toList.drop 0 = dktX4_init_0 := by decide +kernel
theorem dX4_init_0 : decode cX4_init 0 = .ok (.aload_n 0, 1) := dk_42 (dk_at dksX4_init_0 0 rfl rfl)
theorem dX4_init_1 : decode cX4_init 1 = .ok (.invokespecial 3, 3) := dk_183 0 3 (dk_at dksX4_init_0 1 rfl rfl)
theorem dX4_init_4 : decode cX4_init 4 = .ok (.aload_n 0, 1) := dk_42 (dk_at dksX4_init_0 4 rfl rfl)
theorem dX4_init_5 : decode cX4_init 5 = .ok (.bipush 6, 2) := dk_16 6 (dk_at dksX4_init_0 5 rfl rfl)
theorem dX4_init_7 : decode cX4_init 7 = .ok (.newarray .int, 2) := dk_188_10 (dk_at dksX4_init_0 7 rfl rfl)
theorem dX4_init_9 : decode cX4_init 9 = .ok (.putfield 9, 3) := dk_181 0 9 (dk_at dksX4_init_0 9 rfl rfl)
theorem dX4_init_12 : decode cX4_init 12 = .ok (.return_, 1) := dk_177 (dk_at dksX4_init_0 12 rfl rfl)
abbrev cX4_of : ByteArray := prog_8_method_2_code
def yX4_of : MethodName := ⟨RX4, "of", "(I)LLiarsCock$Facts;"⟩
def dkwX4_of_1 : List UInt8 := [167, 0, 4, 3, 79, 132, 2, 1, 167, 255, 227, 42, 176]
abbrev dktX4_of_1 : List UInt8 := dkwX4_of_1 ++ []
def dkwX4_of_0 : List UInt8 := [3, 61, 28, 16, 6, 162, 0, 29, 42, 180, 0, 9, 28, 27, 133, 28, 184, 0, 15, 153, 0, 7, 4]
abbrev dktX4_of_0 : List UInt8 := dkwX4_of_0 ++ dktX4_of_1
theorem dksX4_of_0 : cX4_of.data.toList.drop 0 = dktX4_of_0 := by decide +kernel
theorem dksX4_of_1 : cX4_of.data.toList.drop 23 = dktX4_of_1 := dk_seg dksX4_of_0 23 rfl rfl
theorem dX4_of_0 : decode cX4_of 0 = .ok (.iconst 0, 1) := dk_3 (dk_at dksX4_of_0 0 rfl rfl)
theorem dX4_of_1 : decode cX4_of 1 = .ok (.istore_n 2, 1) := dk_61 (dk_at dksX4_of_0 1 rfl rfl)
theorem dX4_of_2 : decode cX4_of 2 = .ok (.iload_n 2, 1) := dk_28 (dk_at dksX4_of_0 2 rfl rfl)
theorem dX4_of_3 : decode cX4_of 3 = .ok (.bipush 6, 2) := dk_16 6 (dk_at dksX4_of_0 3 rfl rfl)
theorem dX4_of_5 : decode cX4_of 5 = .ok (.if_icmp .ge 29, 3) := dk_162 0 29 (dk_at dksX4_of_0 5 rfl rfl)
theorem dX4_of_8 : decode cX4_of 8 = .ok (.aload_n 0, 1) := dk_42 (dk_at dksX4_of_0 8 rfl rfl)
theorem dX4_of_9 : decode cX4_of 9 = .ok (.getfield 9, 3) := dk_180 0 9 (dk_at dksX4_of_0 9 rfl rfl)
theorem dX4_of_12 : decode cX4_of 12 = .ok (.iload_n 2, 1) := dk_28 (dk_at dksX4_of_0 12 rfl rfl)
theorem dX4_of_13 : decode cX4_of 13 = .ok (.iload_n 1, 1) := dk_27 (dk_at dksX4_of_0 13 rfl rfl)
theorem dX4_of_14 : decode cX4_of 14 = .ok (.i2l, 1) := dk_133 (dk_at dksX4_of_0 14 rfl rfl)
theorem dX4_of_15 : decode cX4_of 15 = .ok (.iload_n 2, 1) := dk_28 (dk_at dksX4_of_0 15 rfl rfl)
theorem dX4_of_16 : decode cX4_of 16 = .ok (.invokestatic 15, 3) := dk_184 0 15 (dk_at dksX4_of_0 16 rfl rfl)
theorem dX4_of_19 : decode cX4_of 19 = .ok (.ifCond .eq 7, 3) := dk_153 0 7 (dk_at dksX4_of_0 19 rfl rfl)
theorem dX4_of_22 : decode cX4_of 22 = .ok (.iconst 1, 1) := dk_4 (dk_at dksX4_of_0 22 rfl rfl)
theorem dX4_of_23 : decode cX4_of 23 = .ok (.goto 4, 3) := dk_167 0 4 (dk_at dksX4_of_1 0 rfl rfl)
theorem dX4_of_26 : decode cX4_of 26 = .ok (.iconst 0, 1) := dk_3 (dk_at dksX4_of_1 3 rfl rfl)
theorem dX4_of_27 : decode cX4_of 27 = .ok (.iastore, 1) := dk_79 (dk_at dksX4_of_1 4 rfl rfl)
theorem dX4_of_28 : decode cX4_of 28 = .ok (.iinc 2 1, 3) := dk_132 2 1 (dk_at dksX4_of_1 5 rfl rfl)
theorem dX4_of_31 : decode cX4_of 31 = .ok (.goto (-29), 3) := dk_167 255 227 (dk_at dksX4_of_1 8 rfl rfl)
theorem dX4_of_34 : decode cX4_of 34 = .ok (.aload_n 0, 1) := dk_42 (dk_at dksX4_of_1 11 rfl rfl)
theorem dX4_of_35 : decode cX4_of 35 = .ok (.areturn, 1) := dk_176 (dk_at dksX4_of_1 12 rfl rfl)
theorem q125 : (Jvm.Cond.initialized "LiarsCock$Facts") ∈ lw_all := lw_g (lw_at lw_m1 7 rfl) rfl
theorem q268 : (Jvm.Cond.instantiable "LiarsCock$Facts" (1 : Nat)) ∈ lw_all := lw_g (lw_at lw_m1 150 rfl) rfl
theorem q270 : (Jvm.Cond.instanceMethod ({ cls := "LiarsCock$Facts", name := "<init>", desc := "()V" } : Jvm.MethodName)) ∈ lw_all := lw_g (lw_at lw_m1 152 rfl) rfl
theorem q271 : (Jvm.Cond.code ({ cls := "LiarsCock$Facts", name := "<init>", desc := "()V" } : Jvm.MethodName) prog_8_method_1_code (1 : Nat) (Option.none : Option Jvm.ClassFile.FieldType)) ∈ lw_all := lw_g (lw_at lw_m1 153 rfl) rfl
theorem q272 : (Jvm.Cond.methodLink "LiarsCock$Facts" (3 : Nat) ({ cls := "java/lang/Object", name := "<init>", desc := "()V" } : Jvm.MethodName)) ∈ lw_all := lw_g (lw_at lw_m1 154 rfl) rfl
theorem q273 : (Jvm.Cond.fieldLink "LiarsCock$Facts" (9 : Nat) "LiarsCock$Facts" "of" "[I") ∈ lw_all := lw_g (lw_at lw_m1 155 rfl) rfl
theorem q275 : (Jvm.Cond.laysFinal "LiarsCock$Facts" "LiarsCock$Facts" "of" "[I") ∈ lw_all := lw_g (lw_at lw_m1 157 rfl) rfl
theorem q276 : (Jvm.Cond.soleField "LiarsCock$Facts" "of") ∈ lw_all := lw_g (lw_at lw_m1 158 rfl) rfl
theorem q277 : (Jvm.Cond.superclass "LiarsCock$Facts" "java/lang/Object") ∈ lw_all := lw_g (lw_at lw_m1 159 rfl) rfl
theorem q783 : (Jvm.Cond.selects "LiarsCock$Facts" ({ cls := "java/lang/Object", name := "getClass", desc := "()Ljava/lang/Class;" } : Jvm.MethodName) ({ cls := "java/lang/Object", name := "getClass", desc := "()Ljava/lang/Class;" } : Jvm.MethodName)) ∈ lw_all := lw_g (lw_at lw_m3 185 rfl) rfl
theorem q1026 : (Jvm.Cond.instanceMethod ({ cls := "LiarsCock$Facts", name := "of", desc := "(I)LLiarsCock$Facts;" } : Jvm.MethodName)) ∈ lw_all := lw_g (lw_at lw_m4 188 rfl) rfl
theorem q1027 : (Jvm.Cond.selects "LiarsCock$Facts" ({ cls := "LiarsCock$Facts", name := "of", desc := "(I)LLiarsCock$Facts;" } : Jvm.MethodName) ({ cls := "LiarsCock$Facts", name := "of", desc := "(I)LLiarsCock$Facts;" } : Jvm.MethodName)) ∈ lw_all := lw_g (lw_at lw_m4 189 rfl) rfl
theorem q1028 : (Jvm.Cond.code ({ cls := "LiarsCock$Facts", name := "of", desc := "(I)LLiarsCock$Facts;" } : Jvm.MethodName) prog_8_method_2_code (3 : Nat) (Option.some (Jvm.ClassFile.FieldType.object "LiarsCock$Facts"))) ∈ lw_all := lw_g (lw_at lw_m4 190 rfl) rfl
theorem q1029 : (Jvm.Cond.methodLinkNest "LiarsCock$Facts" (15 : Nat) ({ cls := "LiarsCock", name := "has", desc := "(JI)Z" } : Jvm.MethodName) "LiarsCock") ∈ lw_tbl := lw_at lw_m4 191 rfl
theorem q2263 : (Jvm.Cond.castable "LiarsCock$Facts" "java/lang/Object") ∈ lw_tbl := lw_at lw_m9 225 rfl
theorem in_X4 : ∀ w ∈ wsX40, w ∈ lw_all := lw_in wsX40 [275] (by decide +kernel) (by decide +kernel)

/-! LiarsCock$Cock -/
set_option maxRecDepth 100000
def RX5 : String := "LiarsCock$Cock"
def TX5 : u_T := fun k => match k with
  | 0 => ("LiarsCock$Cock", "law", "I", true)
  | _ => ("LiarsCock$Cock", "late", "I", true)
def tyX5 : Nat → FieldType := fun k => match k with
  | 0 => .int
  | _ => .int
abbrev wsX50 : List Cond := u_ws RX5 TX5 2
theorem nmX5 : ∀ a, a < 2 → ∀ b, b < 2 → a ≠ b → (TX5 a).2.1 ≠ (TX5 b).2.1 := by decide +kernel
theorem tyX5_ok : ∀ k, k < 2 → parseFieldDescriptor (TX5 k).2.2.1 = some (tyX5 k) := by decide +kernel
abbrev cX5_init : ByteArray := prog_5_method_1_code
def yX5_init : MethodName := ⟨RX5, "<init>", "(II)V"⟩
def dkwX5_init_0 : List UInt8 := [42, 183, 0, 1, 42, 27, 181, 0, 7, 42, 28, 181, 0, 13, 177]
abbrev dktX5_init_0 : List UInt8 := dkwX5_init_0 ++ []
theorem dksX5_init_0 : cX5_init.data.toList.drop 0 = dktX5_init_0 := by decide +kernel
theorem dX5_init_0 : decode cX5_init 0 = .ok (.aload_n 0, 1) := dk_42 (dk_at dksX5_init_0 0 rfl rfl)
theorem dX5_init_1 : decode cX5_init 1 = .ok (.invokespecial 1, 3) := dk_183 0 1 (dk_at dksX5_init_0 1 rfl rfl)
theorem dX5_init_4 : decode cX5_init 4 = .ok (.aload_n 0, 1) := dk_42 (dk_at dksX5_init_0 4 rfl rfl)
theorem dX5_init_5 : decode cX5_init 5 = .ok (.iload_n 1, 1) := dk_27 (dk_at dksX5_init_0 5 rfl rfl)
theorem dX5_init_6 : decode cX5_init 6 = .ok (.putfield 7, 3) := dk_181 0 7 (dk_at dksX5_init_0 6 rfl rfl)
theorem dX5_init_9 : decode cX5_init 9 = .ok (.aload_n 0, 1) := dk_42 (dk_at dksX5_init_0 9 rfl rfl)
theorem dX5_init_10 : decode cX5_init 10 = .ok (.iload_n 2, 1) := dk_28 (dk_at dksX5_init_0 10 rfl rfl)
theorem dX5_init_11 : decode cX5_init 11 = .ok (.putfield 13, 3) := dk_181 0 13 (dk_at dksX5_init_0 11 rfl rfl)
theorem dX5_init_14 : decode cX5_init 14 = .ok (.return_, 1) := dk_177 (dk_at dksX5_init_0 14 rfl rfl)
theorem q126 : (Jvm.Cond.initialized "LiarsCock$Cock") ∈ lw_all := lw_g (lw_at lw_m1 8 rfl) rfl
theorem q327 : (Jvm.Cond.instantiable "LiarsCock$Cock" (2 : Nat)) ∈ lw_all := lw_g (lw_at lw_m1 209 rfl) rfl
theorem q329 : (Jvm.Cond.instanceMethod ({ cls := "LiarsCock$Cock", name := "<init>", desc := "(II)V" } : Jvm.MethodName)) ∈ lw_all := lw_g (lw_at lw_m1 211 rfl) rfl
theorem q330 : (Jvm.Cond.code ({ cls := "LiarsCock$Cock", name := "<init>", desc := "(II)V" } : Jvm.MethodName) prog_5_method_1_code (3 : Nat) (Option.none : Option Jvm.ClassFile.FieldType)) ∈ lw_all := lw_g (lw_at lw_m1 212 rfl) rfl
theorem q331 : (Jvm.Cond.methodLink "LiarsCock$Cock" (1 : Nat) ({ cls := "java/lang/Object", name := "<init>", desc := "()V" } : Jvm.MethodName)) ∈ lw_all := lw_g (lw_at lw_m1 213 rfl) rfl
theorem q332 : (Jvm.Cond.fieldLink "LiarsCock$Cock" (7 : Nat) "LiarsCock$Cock" "law" "I") ∈ lw_all := lw_g (lw_at lw_m1 214 rfl) rfl
theorem q334 : (Jvm.Cond.fieldLink "LiarsCock$Cock" (13 : Nat) "LiarsCock$Cock" "late" "I") ∈ lw_all := lw_g (lw_at lw_m1 216 rfl) rfl
theorem q336 : (Jvm.Cond.laysFinal "LiarsCock$Cock" "LiarsCock$Cock" "law" "I") ∈ lw_all := lw_g (lw_at lw_m1 218 rfl) rfl
theorem q337 : (Jvm.Cond.soleField "LiarsCock$Cock" "law") ∈ lw_all := lw_g (lw_at lw_m1 219 rfl) rfl
theorem q338 : (Jvm.Cond.laysFinal "LiarsCock$Cock" "LiarsCock$Cock" "late" "I") ∈ lw_all := lw_g (lw_at lw_m1 220 rfl) rfl
theorem q339 : (Jvm.Cond.soleField "LiarsCock$Cock" "late") ∈ lw_all := lw_g (lw_at lw_m1 221 rfl) rfl
theorem q340 : (Jvm.Cond.superclass "LiarsCock$Cock" "java/lang/Object") ∈ lw_all := lw_g (lw_at lw_m1 222 rfl) rfl
theorem q781 : (Jvm.Cond.selects "LiarsCock$Cock" ({ cls := "java/lang/Object", name := "getClass", desc := "()Ljava/lang/Class;" } : Jvm.MethodName) ({ cls := "java/lang/Object", name := "getClass", desc := "()Ljava/lang/Class;" } : Jvm.MethodName)) ∈ lw_all := lw_g (lw_at lw_m3 183 rfl) rfl
theorem q2257 : (Jvm.Cond.castable "LiarsCock$Cock" "java/lang/Object") ∈ lw_tbl := lw_at lw_m9 219 rfl
theorem in_X5 : ∀ w ∈ wsX50, w ∈ lw_all := lw_in wsX50 [336, 338] (by decide +kernel) (by decide +kernel)

/-! LiarsCock$Sets -/
set_option maxRecDepth 100000
def RX6 : String := "LiarsCock$Sets"
def TX6 : u_T := fun k => match k with
  | 0 => ("LiarsCock$Sets", "masks", "[J", true)
  | 1 => ("LiarsCock$Sets", "left", "[J", true)
  | _ => ("LiarsCock$Sets", "this$0", "LLiarsCock;", true)
def tyX6 : Nat → FieldType := fun k => match k with
  | 0 => .array .long
  | 1 => .array .long
  | _ => .object "LiarsCock"
abbrev wsX60 : List Cond := u_ws RX6 TX6 3
theorem nmX6 : ∀ a, a < 3 → ∀ b, b < 3 → a ≠ b → (TX6 a).2.1 ≠ (TX6 b).2.1 := by decide +kernel
theorem tyX6_ok : ∀ k, k < 3 → parseFieldDescriptor (TX6 k).2.2.1 = some (tyX6 k) := by decide +kernel
abbrev cX6_init : ByteArray := prog_24_method_1_code
def yX6_init : MethodName := ⟨RX6, "<init>", "(LLiarsCock;)V"⟩
def dkwX6_init_1 : List UInt8 := [181, 0, 19, 177]
abbrev dktX6_init_1 : List UInt8 := dkwX6_init_1 ++ []
def dkwX6_init_0 : List UInt8 := [42, 43, 181, 0, 3, 42, 183, 0, 9, 42, 16, 12, 188, 11, 181, 0, 15, 42, 17, 16, 0, 188, 11]
abbrev dktX6_init_0 : List UInt8 := dkwX6_init_0 ++ dktX6_init_1
theorem dksX6_init_0 : cX6_init.data.toList.drop 0 = dktX6_init_0 := by decide +kernel
theorem dksX6_init_1 : cX6_init.data.toList.drop 23 = dktX6_init_1 := dk_seg dksX6_init_0 23 rfl rfl
theorem dX6_init_0 : decode cX6_init 0 = .ok (.aload_n 0, 1) := dk_42 (dk_at dksX6_init_0 0 rfl rfl)
theorem dX6_init_1 : decode cX6_init 1 = .ok (.aload_n 1, 1) := dk_43 (dk_at dksX6_init_0 1 rfl rfl)
theorem dX6_init_2 : decode cX6_init 2 = .ok (.putfield 3, 3) := dk_181 0 3 (dk_at dksX6_init_0 2 rfl rfl)
theorem dX6_init_5 : decode cX6_init 5 = .ok (.aload_n 0, 1) := dk_42 (dk_at dksX6_init_0 5 rfl rfl)
theorem dX6_init_6 : decode cX6_init 6 = .ok (.invokespecial 9, 3) := dk_183 0 9 (dk_at dksX6_init_0 6 rfl rfl)
theorem dX6_init_9 : decode cX6_init 9 = .ok (.aload_n 0, 1) := dk_42 (dk_at dksX6_init_0 9 rfl rfl)
theorem dX6_init_10 : decode cX6_init 10 = .ok (.bipush 12, 2) := dk_16 12 (dk_at dksX6_init_0 10 rfl rfl)
theorem dX6_init_12 : decode cX6_init 12 = .ok (.newarray .long, 2) := dk_188_11 (dk_at dksX6_init_0 12 rfl rfl)
theorem dX6_init_14 : decode cX6_init 14 = .ok (.putfield 15, 3) := dk_181 0 15 (dk_at dksX6_init_0 14 rfl rfl)
theorem dX6_init_17 : decode cX6_init 17 = .ok (.aload_n 0, 1) := dk_42 (dk_at dksX6_init_0 17 rfl rfl)
theorem dX6_init_18 : decode cX6_init 18 = .ok (.sipush 4096, 3) := dk_17 16 0 (dk_at dksX6_init_0 18 rfl rfl)
theorem dX6_init_21 : decode cX6_init 21 = .ok (.newarray .long, 2) := dk_188_11 (dk_at dksX6_init_0 21 rfl rfl)
theorem dX6_init_23 : decode cX6_init 23 = .ok (.putfield 19, 3) := dk_181 0 19 (dk_at dksX6_init_1 0 rfl rfl)
theorem dX6_init_26 : decode cX6_init 26 = .ok (.return_, 1) := dk_177 (dk_at dksX6_init_1 3 rfl rfl)
abbrev cX6_first : ByteArray := prog_24_method_3_code
def yX6_first : MethodName := ⟨RX6, "first", "(JI)I"⟩
def dkwX6_first_3 : List UInt8 := [172]
abbrev dktX6_first_3 : List UInt8 := dkwX6_first_3 ++ []
def dkwX6_first_2 : List UInt8 := [184, 0, 66, 21, 4, 133, 184, 0, 66, 162, 0, 7, 21, 5, 54, 4, 132, 5, 1, 167, 255, 201, 21, 4]
abbrev dktX6_first_2 : List UInt8 := dkwX6_first_2 ++ dktX6_first_3
def dkwX6_first_1 : List UInt8 := [180, 0, 19, 21, 5, 47, 31, 184, 0, 62, 29, 160, 0, 28, 21, 4, 2, 159, 0, 18, 21, 5, 133]
abbrev dktX6_first_1 : List UInt8 := dkwX6_first_1 ++ dktX6_first_2
def dkwX6_first_0 : List UInt8 := [42, 182, 0, 59, 2, 54, 4, 3, 54, 5, 21, 5, 42, 180, 0, 3, 182, 0, 52, 163, 0, 49, 42]
abbrev dktX6_first_0 : List UInt8 := dkwX6_first_0 ++ dktX6_first_1
theorem dksX6_first_0 : cX6_first.data.toList.drop 0 = dktX6_first_0 := by decide +kernel
theorem dksX6_first_1 : cX6_first.data.toList.drop 23 = dktX6_first_1 := dk_seg dksX6_first_0 23 rfl rfl
theorem dksX6_first_2 : cX6_first.data.toList.drop 46 = dktX6_first_2 := dk_seg dksX6_first_1 23 rfl rfl
theorem dksX6_first_3 : cX6_first.data.toList.drop 70 = dktX6_first_3 := dk_seg dksX6_first_2 24 rfl rfl
theorem dX6_first_0 : decode cX6_first 0 = .ok (.aload_n 0, 1) := dk_42 (dk_at dksX6_first_0 0 rfl rfl)
theorem dX6_first_1 : decode cX6_first 1 = .ok (.invokevirtual 59, 3) := dk_182 0 59 (dk_at dksX6_first_0 1 rfl rfl)
theorem dX6_first_4 : decode cX6_first 4 = .ok (.iconst (-1), 1) := dk_2 (dk_at dksX6_first_0 4 rfl rfl)
theorem dX6_first_5 : decode cX6_first 5 = .ok (.istore 4, 2) := dk_54 4 (dk_at dksX6_first_0 5 rfl rfl)
theorem dX6_first_7 : decode cX6_first 7 = .ok (.iconst 0, 1) := dk_3 (dk_at dksX6_first_0 7 rfl rfl)
theorem dX6_first_8 : decode cX6_first 8 = .ok (.istore 5, 2) := dk_54 5 (dk_at dksX6_first_0 8 rfl rfl)
theorem dX6_first_10 : decode cX6_first 10 = .ok (.iload 5, 2) := dk_21 5 (dk_at dksX6_first_0 10 rfl rfl)
theorem dX6_first_12 : decode cX6_first 12 = .ok (.aload_n 0, 1) := dk_42 (dk_at dksX6_first_0 12 rfl rfl)
theorem dX6_first_13 : decode cX6_first 13 = .ok (.getfield 3, 3) := dk_180 0 3 (dk_at dksX6_first_0 13 rfl rfl)
theorem dX6_first_16 : decode cX6_first 16 = .ok (.invokevirtual 52, 3) := dk_182 0 52 (dk_at dksX6_first_0 16 rfl rfl)
theorem dX6_first_19 : decode cX6_first 19 = .ok (.if_icmp .gt 49, 3) := dk_163 0 49 (dk_at dksX6_first_0 19 rfl rfl)
theorem dX6_first_22 : decode cX6_first 22 = .ok (.aload_n 0, 1) := dk_42 (dk_at dksX6_first_0 22 rfl rfl)
theorem dX6_first_23 : decode cX6_first 23 = .ok (.getfield 19, 3) := dk_180 0 19 (dk_at dksX6_first_1 0 rfl rfl)
theorem dX6_first_26 : decode cX6_first 26 = .ok (.iload 5, 2) := dk_21 5 (dk_at dksX6_first_1 3 rfl rfl)
theorem dX6_first_28 : decode cX6_first 28 = .ok (.laload, 1) := dk_47 (dk_at dksX6_first_1 5 rfl rfl)
theorem dX6_first_29 : decode cX6_first 29 = .ok (.lload_n 1, 1) := dk_31 (dk_at dksX6_first_1 6 rfl rfl)
theorem dX6_first_30 : decode cX6_first 30 = .ok (.invokestatic 62, 3) := dk_184 0 62 (dk_at dksX6_first_1 7 rfl rfl)
theorem dX6_first_33 : decode cX6_first 33 = .ok (.iload_n 3, 1) := dk_29 (dk_at dksX6_first_1 10 rfl rfl)
theorem dX6_first_34 : decode cX6_first 34 = .ok (.if_icmp .ne 28, 3) := dk_160 0 28 (dk_at dksX6_first_1 11 rfl rfl)
theorem dX6_first_37 : decode cX6_first 37 = .ok (.iload 4, 2) := dk_21 4 (dk_at dksX6_first_1 14 rfl rfl)
theorem dX6_first_39 : decode cX6_first 39 = .ok (.iconst (-1), 1) := dk_2 (dk_at dksX6_first_1 16 rfl rfl)
theorem dX6_first_40 : decode cX6_first 40 = .ok (.if_icmp .eq 18, 3) := dk_159 0 18 (dk_at dksX6_first_1 17 rfl rfl)
theorem dX6_first_43 : decode cX6_first 43 = .ok (.iload 5, 2) := dk_21 5 (dk_at dksX6_first_1 20 rfl rfl)
theorem dX6_first_45 : decode cX6_first 45 = .ok (.i2l, 1) := dk_133 (dk_at dksX6_first_1 22 rfl rfl)
theorem dX6_first_46 : decode cX6_first 46 = .ok (.invokestatic 66, 3) := dk_184 0 66 (dk_at dksX6_first_2 0 rfl rfl)
theorem dX6_first_49 : decode cX6_first 49 = .ok (.iload 4, 2) := dk_21 4 (dk_at dksX6_first_2 3 rfl rfl)
theorem dX6_first_51 : decode cX6_first 51 = .ok (.i2l, 1) := dk_133 (dk_at dksX6_first_2 5 rfl rfl)
theorem dX6_first_52 : decode cX6_first 52 = .ok (.invokestatic 66, 3) := dk_184 0 66 (dk_at dksX6_first_2 6 rfl rfl)
theorem dX6_first_55 : decode cX6_first 55 = .ok (.if_icmp .ge 7, 3) := dk_162 0 7 (dk_at dksX6_first_2 9 rfl rfl)
theorem dX6_first_58 : decode cX6_first 58 = .ok (.iload 5, 2) := dk_21 5 (dk_at dksX6_first_2 12 rfl rfl)
theorem dX6_first_60 : decode cX6_first 60 = .ok (.istore 4, 2) := dk_54 4 (dk_at dksX6_first_2 14 rfl rfl)
theorem dX6_first_62 : decode cX6_first 62 = .ok (.iinc 5 1, 3) := dk_132 5 1 (dk_at dksX6_first_2 16 rfl rfl)
theorem dX6_first_65 : decode cX6_first 65 = .ok (.goto (-55), 3) := dk_167 255 201 (dk_at dksX6_first_2 19 rfl rfl)
theorem dX6_first_68 : decode cX6_first 68 = .ok (.iload 4, 2) := dk_21 4 (dk_at dksX6_first_2 22 rfl rfl)
theorem dX6_first_70 : decode cX6_first 70 = .ok (.ireturn, 1) := dk_172 (dk_at dksX6_first_3 0 rfl rfl)
abbrev cX6_find : ByteArray := prog_24_method_2_code
def yX6_find : MethodName := ⟨RX6, "find", "()V"⟩
def dkwX6_find_5 : List UInt8 := [28, 47, 127, 80, 132, 1, 1, 167, 255, 200, 177]
abbrev dktX6_find_5 : List UInt8 := dkwX6_find_5 ++ []
def dkwX6_find_4 : List UInt8 := [167, 255, 244, 42, 180, 0, 19, 27, 42, 180, 0, 19, 27, 4, 28, 120, 2, 130, 126, 47, 42, 180, 0, 15]
abbrev dktX6_find_4 : List UInt8 := dkwX6_find_4 ++ dktX6_find_5
def dkwX6_find_3 : List UInt8 := [180, 0, 3, 182, 0, 52, 163, 0, 51, 3, 61, 27, 133, 28, 184, 0, 55, 154, 0, 9, 132, 2, 1]
abbrev dktX6_find_3 : List UInt8 := dkwX6_find_3 ++ dktX6_find_4
def dkwX6_find_2 : List UInt8 := [167, 255, 212, 42, 180, 0, 19, 3, 42, 180, 0, 3, 180, 0, 42, 180, 0, 46, 80, 4, 60, 27, 42]
abbrev dktX6_find_2 : List UInt8 := dkwX6_find_2 ++ dktX6_find_3
def dkwX6_find_1 : List UInt8 := [180, 0, 3, 42, 180, 0, 3, 180, 0, 22, 27, 182, 0, 32, 192, 0, 36, 182, 0, 38, 80, 132, 1, 1]
abbrev dktX6_find_1 : List UInt8 := dkwX6_find_1 ++ dktX6_find_2
def dkwX6_find_0 : List UInt8 := [3, 60, 27, 42, 180, 0, 3, 180, 0, 22, 182, 0, 26, 162, 0, 36, 42, 180, 0, 15, 27, 42]
abbrev dktX6_find_0 : List UInt8 := dkwX6_find_0 ++ dktX6_find_1
theorem dksX6_find_0 : cX6_find.data.toList.drop 0 = dktX6_find_0 := by decide +kernel
theorem dksX6_find_1 : cX6_find.data.toList.drop 22 = dktX6_find_1 := dk_seg dksX6_find_0 22 rfl rfl
theorem dksX6_find_2 : cX6_find.data.toList.drop 46 = dktX6_find_2 := dk_seg dksX6_find_1 24 rfl rfl
theorem dksX6_find_3 : cX6_find.data.toList.drop 69 = dktX6_find_3 := dk_seg dksX6_find_2 23 rfl rfl
theorem dksX6_find_4 : cX6_find.data.toList.drop 92 = dktX6_find_4 := dk_seg dksX6_find_3 23 rfl rfl
theorem dksX6_find_5 : cX6_find.data.toList.drop 116 = dktX6_find_5 := dk_seg dksX6_find_4 24 rfl rfl
theorem dX6_find_0 : decode cX6_find 0 = .ok (.iconst 0, 1) := dk_3 (dk_at dksX6_find_0 0 rfl rfl)
theorem dX6_find_1 : decode cX6_find 1 = .ok (.istore_n 1, 1) := dk_60 (dk_at dksX6_find_0 1 rfl rfl)
theorem dX6_find_2 : decode cX6_find 2 = .ok (.iload_n 1, 1) := dk_27 (dk_at dksX6_find_0 2 rfl rfl)
theorem dX6_find_3 : decode cX6_find 3 = .ok (.aload_n 0, 1) := dk_42 (dk_at dksX6_find_0 3 rfl rfl)
theorem dX6_find_4 : decode cX6_find 4 = .ok (.getfield 3, 3) := dk_180 0 3 (dk_at dksX6_find_0 4 rfl rfl)
theorem dX6_find_7 : decode cX6_find 7 = .ok (.getfield 22, 3) := dk_180 0 22 (dk_at dksX6_find_0 7 rfl rfl)
theorem dX6_find_10 : decode cX6_find 10 = .ok (.invokevirtual 26, 3) := dk_182 0 26 (dk_at dksX6_find_0 10 rfl rfl)
theorem dX6_find_13 : decode cX6_find 13 = .ok (.if_icmp .ge 36, 3) := dk_162 0 36 (dk_at dksX6_find_0 13 rfl rfl)
theorem dX6_find_16 : decode cX6_find 16 = .ok (.aload_n 0, 1) := dk_42 (dk_at dksX6_find_0 16 rfl rfl)
theorem dX6_find_17 : decode cX6_find 17 = .ok (.getfield 15, 3) := dk_180 0 15 (dk_at dksX6_find_0 17 rfl rfl)
theorem dX6_find_20 : decode cX6_find 20 = .ok (.iload_n 1, 1) := dk_27 (dk_at dksX6_find_0 20 rfl rfl)
theorem dX6_find_21 : decode cX6_find 21 = .ok (.aload_n 0, 1) := dk_42 (dk_at dksX6_find_0 21 rfl rfl)
theorem dX6_find_22 : decode cX6_find 22 = .ok (.getfield 3, 3) := dk_180 0 3 (dk_at dksX6_find_1 0 rfl rfl)
theorem dX6_find_25 : decode cX6_find 25 = .ok (.aload_n 0, 1) := dk_42 (dk_at dksX6_find_1 3 rfl rfl)
theorem dX6_find_26 : decode cX6_find 26 = .ok (.getfield 3, 3) := dk_180 0 3 (dk_at dksX6_find_1 4 rfl rfl)
theorem dX6_find_29 : decode cX6_find 29 = .ok (.getfield 22, 3) := dk_180 0 22 (dk_at dksX6_find_1 7 rfl rfl)
theorem dX6_find_32 : decode cX6_find 32 = .ok (.iload_n 1, 1) := dk_27 (dk_at dksX6_find_1 10 rfl rfl)
theorem dX6_find_33 : decode cX6_find 33 = .ok (.invokevirtual 32, 3) := dk_182 0 32 (dk_at dksX6_find_1 11 rfl rfl)
theorem dX6_find_36 : decode cX6_find 36 = .ok (.checkcast 36, 3) := dk_192 0 36 (dk_at dksX6_find_1 14 rfl rfl)
theorem dX6_find_39 : decode cX6_find 39 = .ok (.invokevirtual 38, 3) := dk_182 0 38 (dk_at dksX6_find_1 17 rfl rfl)
theorem dX6_find_42 : decode cX6_find 42 = .ok (.lastore, 1) := dk_80 (dk_at dksX6_find_1 20 rfl rfl)
theorem dX6_find_43 : decode cX6_find 43 = .ok (.iinc 1 1, 3) := dk_132 1 1 (dk_at dksX6_find_1 21 rfl rfl)
theorem dX6_find_46 : decode cX6_find 46 = .ok (.goto (-44), 3) := dk_167 255 212 (dk_at dksX6_find_2 0 rfl rfl)
theorem dX6_find_49 : decode cX6_find 49 = .ok (.aload_n 0, 1) := dk_42 (dk_at dksX6_find_2 3 rfl rfl)
theorem dX6_find_50 : decode cX6_find 50 = .ok (.getfield 19, 3) := dk_180 0 19 (dk_at dksX6_find_2 4 rfl rfl)
theorem dX6_find_53 : decode cX6_find 53 = .ok (.iconst 0, 1) := dk_3 (dk_at dksX6_find_2 7 rfl rfl)
theorem dX6_find_54 : decode cX6_find 54 = .ok (.aload_n 0, 1) := dk_42 (dk_at dksX6_find_2 8 rfl rfl)
theorem dX6_find_55 : decode cX6_find 55 = .ok (.getfield 3, 3) := dk_180 0 3 (dk_at dksX6_find_2 9 rfl rfl)
theorem dX6_find_58 : decode cX6_find 58 = .ok (.getfield 42, 3) := dk_180 0 42 (dk_at dksX6_find_2 12 rfl rfl)
theorem dX6_find_61 : decode cX6_find 61 = .ok (.getfield 46, 3) := dk_180 0 46 (dk_at dksX6_find_2 15 rfl rfl)
theorem dX6_find_64 : decode cX6_find 64 = .ok (.lastore, 1) := dk_80 (dk_at dksX6_find_2 18 rfl rfl)
theorem dX6_find_65 : decode cX6_find 65 = .ok (.iconst 1, 1) := dk_4 (dk_at dksX6_find_2 19 rfl rfl)
theorem dX6_find_66 : decode cX6_find 66 = .ok (.istore_n 1, 1) := dk_60 (dk_at dksX6_find_2 20 rfl rfl)
theorem dX6_find_67 : decode cX6_find 67 = .ok (.iload_n 1, 1) := dk_27 (dk_at dksX6_find_2 21 rfl rfl)
theorem dX6_find_68 : decode cX6_find 68 = .ok (.aload_n 0, 1) := dk_42 (dk_at dksX6_find_2 22 rfl rfl)
theorem dX6_find_69 : decode cX6_find 69 = .ok (.getfield 3, 3) := dk_180 0 3 (dk_at dksX6_find_3 0 rfl rfl)
theorem dX6_find_72 : decode cX6_find 72 = .ok (.invokevirtual 52, 3) := dk_182 0 52 (dk_at dksX6_find_3 3 rfl rfl)
theorem dX6_find_75 : decode cX6_find 75 = .ok (.if_icmp .gt 51, 3) := dk_163 0 51 (dk_at dksX6_find_3 6 rfl rfl)
theorem dX6_find_78 : decode cX6_find 78 = .ok (.iconst 0, 1) := dk_3 (dk_at dksX6_find_3 9 rfl rfl)
theorem dX6_find_79 : decode cX6_find 79 = .ok (.istore_n 2, 1) := dk_61 (dk_at dksX6_find_3 10 rfl rfl)
theorem dX6_find_80 : decode cX6_find 80 = .ok (.iload_n 1, 1) := dk_27 (dk_at dksX6_find_3 11 rfl rfl)
theorem dX6_find_81 : decode cX6_find 81 = .ok (.i2l, 1) := dk_133 (dk_at dksX6_find_3 12 rfl rfl)
theorem dX6_find_82 : decode cX6_find 82 = .ok (.iload_n 2, 1) := dk_28 (dk_at dksX6_find_3 13 rfl rfl)
theorem dX6_find_83 : decode cX6_find 83 = .ok (.invokestatic 55, 3) := dk_184 0 55 (dk_at dksX6_find_3 14 rfl rfl)
theorem dX6_find_86 : decode cX6_find 86 = .ok (.ifCond .ne 9, 3) := dk_154 0 9 (dk_at dksX6_find_3 17 rfl rfl)
theorem dX6_find_89 : decode cX6_find 89 = .ok (.iinc 2 1, 3) := dk_132 2 1 (dk_at dksX6_find_3 20 rfl rfl)
theorem dX6_find_92 : decode cX6_find 92 = .ok (.goto (-12), 3) := dk_167 255 244 (dk_at dksX6_find_4 0 rfl rfl)
theorem dX6_find_95 : decode cX6_find 95 = .ok (.aload_n 0, 1) := dk_42 (dk_at dksX6_find_4 3 rfl rfl)
theorem dX6_find_96 : decode cX6_find 96 = .ok (.getfield 19, 3) := dk_180 0 19 (dk_at dksX6_find_4 4 rfl rfl)
theorem dX6_find_99 : decode cX6_find 99 = .ok (.iload_n 1, 1) := dk_27 (dk_at dksX6_find_4 7 rfl rfl)
theorem dX6_find_100 : decode cX6_find 100 = .ok (.aload_n 0, 1) := dk_42 (dk_at dksX6_find_4 8 rfl rfl)
theorem dX6_find_101 : decode cX6_find 101 = .ok (.getfield 19, 3) := dk_180 0 19 (dk_at dksX6_find_4 9 rfl rfl)
theorem dX6_find_104 : decode cX6_find 104 = .ok (.iload_n 1, 1) := dk_27 (dk_at dksX6_find_4 12 rfl rfl)
theorem dX6_find_105 : decode cX6_find 105 = .ok (.iconst 1, 1) := dk_4 (dk_at dksX6_find_4 13 rfl rfl)
theorem dX6_find_106 : decode cX6_find 106 = .ok (.iload_n 2, 1) := dk_28 (dk_at dksX6_find_4 14 rfl rfl)
theorem dX6_find_107 : decode cX6_find 107 = .ok (.ishl, 1) := dk_120 (dk_at dksX6_find_4 15 rfl rfl)
theorem dX6_find_108 : decode cX6_find 108 = .ok (.iconst (-1), 1) := dk_2 (dk_at dksX6_find_4 16 rfl rfl)
theorem dX6_find_109 : decode cX6_find 109 = .ok (.ixor, 1) := dk_130 (dk_at dksX6_find_4 17 rfl rfl)
theorem dX6_find_110 : decode cX6_find 110 = .ok (.iand, 1) := dk_126 (dk_at dksX6_find_4 18 rfl rfl)
theorem dX6_find_111 : decode cX6_find 111 = .ok (.laload, 1) := dk_47 (dk_at dksX6_find_4 19 rfl rfl)
theorem dX6_find_112 : decode cX6_find 112 = .ok (.aload_n 0, 1) := dk_42 (dk_at dksX6_find_4 20 rfl rfl)
theorem dX6_find_113 : decode cX6_find 113 = .ok (.getfield 15, 3) := dk_180 0 15 (dk_at dksX6_find_4 21 rfl rfl)
theorem dX6_find_116 : decode cX6_find 116 = .ok (.iload_n 2, 1) := dk_28 (dk_at dksX6_find_5 0 rfl rfl)
theorem dX6_find_117 : decode cX6_find 117 = .ok (.laload, 1) := dk_47 (dk_at dksX6_find_5 1 rfl rfl)
theorem dX6_find_118 : decode cX6_find 118 = .ok (.land, 1) := dk_127 (dk_at dksX6_find_5 2 rfl rfl)
theorem dX6_find_119 : decode cX6_find 119 = .ok (.lastore, 1) := dk_80 (dk_at dksX6_find_5 3 rfl rfl)
theorem dX6_find_120 : decode cX6_find 120 = .ok (.iinc 1 1, 3) := dk_132 1 1 (dk_at dksX6_find_5 4 rfl rfl)
theorem dX6_find_123 : decode cX6_find 123 = .ok (.goto (-56), 3) := dk_167 255 200 (dk_at dksX6_find_5 7 rfl rfl)
theorem dX6_find_126 : decode cX6_find 126 = .ok (.return_, 1) := dk_177 (dk_at dksX6_find_5 10 rfl rfl)
theorem q127 : (Jvm.Cond.initialized "LiarsCock$Sets") ∈ lw_all := lw_g (lw_at lw_m1 9 rfl) rfl
theorem q300 : (Jvm.Cond.fieldLink "LiarsCock$Sets" (46 : Nat) "LiarsCock$Parish" "common" "J") ∈ lw_all := lw_g (lw_at lw_m1 182 rfl) rfl
theorem q348 : (Jvm.Cond.instantiable "LiarsCock$Sets" (3 : Nat)) ∈ lw_all := lw_g (lw_at lw_m1 230 rfl) rfl
theorem q350 : (Jvm.Cond.instanceMethod ({ cls := "LiarsCock$Sets", name := "<init>", desc := "(LLiarsCock;)V" } : Jvm.MethodName)) ∈ lw_all := lw_g (lw_at lw_m1 232 rfl) rfl
theorem q351 : (Jvm.Cond.code ({ cls := "LiarsCock$Sets", name := "<init>", desc := "(LLiarsCock;)V" } : Jvm.MethodName) prog_24_method_1_code (2 : Nat) (Option.none : Option Jvm.ClassFile.FieldType)) ∈ lw_all := lw_g (lw_at lw_m1 233 rfl) rfl
theorem q352 : (Jvm.Cond.methodLink "LiarsCock$Sets" (9 : Nat) ({ cls := "java/lang/Object", name := "<init>", desc := "()V" } : Jvm.MethodName)) ∈ lw_all := lw_g (lw_at lw_m1 234 rfl) rfl
theorem q353 : (Jvm.Cond.fieldLink "LiarsCock$Sets" (15 : Nat) "LiarsCock$Sets" "masks" "[J") ∈ lw_all := lw_g (lw_at lw_m1 235 rfl) rfl
theorem q354 : (Jvm.Cond.fieldLink "LiarsCock$Sets" (19 : Nat) "LiarsCock$Sets" "left" "[J") ∈ lw_all := lw_g (lw_at lw_m1 236 rfl) rfl
theorem q355 : (Jvm.Cond.fieldLink "LiarsCock$Sets" (3 : Nat) "LiarsCock$Sets" "this$0" "LLiarsCock;") ∈ lw_all := lw_g (lw_at lw_m1 237 rfl) rfl
theorem q356 : (Jvm.Cond.laysFinal "LiarsCock$Sets" "LiarsCock$Sets" "masks" "[J") ∈ lw_all := lw_g (lw_at lw_m1 238 rfl) rfl
theorem q357 : (Jvm.Cond.soleField "LiarsCock$Sets" "masks") ∈ lw_all := lw_g (lw_at lw_m1 239 rfl) rfl
theorem q358 : (Jvm.Cond.laysFinal "LiarsCock$Sets" "LiarsCock$Sets" "left" "[J") ∈ lw_all := lw_g (lw_at lw_m2 0 rfl) rfl
theorem q359 : (Jvm.Cond.soleField "LiarsCock$Sets" "left") ∈ lw_all := lw_g (lw_at lw_m2 1 rfl) rfl
theorem q360 : (Jvm.Cond.laysFinal "LiarsCock$Sets" "LiarsCock$Sets" "this$0" "LLiarsCock;") ∈ lw_all := lw_g (lw_at lw_m2 2 rfl) rfl
theorem q361 : (Jvm.Cond.soleField "LiarsCock$Sets" "this$0") ∈ lw_all := lw_g (lw_at lw_m2 3 rfl) rfl
theorem q362 : (Jvm.Cond.superclass "LiarsCock$Sets" "java/lang/Object") ∈ lw_all := lw_g (lw_at lw_m2 4 rfl) rfl
theorem q419 : (Jvm.Cond.fieldLinkNest "LiarsCock$Sets" (42 : Nat) "LiarsCock" "parish" "LLiarsCock$Parish;" "LiarsCock") ∈ lw_tbl := lw_at lw_m2 61 rfl
theorem q429 : (Jvm.Cond.fieldLinkNest "LiarsCock$Sets" (22 : Nat) "LiarsCock" "looks" "Ljava/util/ArrayList;" "LiarsCock") ∈ lw_tbl := lw_at lw_m2 71 rfl
theorem q798 : (Jvm.Cond.selects "LiarsCock$Sets" ({ cls := "java/lang/Object", name := "getClass", desc := "()Ljava/lang/Class;" } : Jvm.MethodName) ({ cls := "java/lang/Object", name := "getClass", desc := "()Ljava/lang/Class;" } : Jvm.MethodName)) ∈ lw_all := lw_g (lw_at lw_m3 200 rfl) rfl
theorem q1323 : (Jvm.Cond.instanceMethod ({ cls := "LiarsCock$Sets", name := "first", desc := "(JI)I" } : Jvm.MethodName)) ∈ lw_all := lw_g (lw_at lw_m6 5 rfl) rfl
theorem q1324 : (Jvm.Cond.selects "LiarsCock$Sets" ({ cls := "LiarsCock$Sets", name := "first", desc := "(JI)I" } : Jvm.MethodName) ({ cls := "LiarsCock$Sets", name := "first", desc := "(JI)I" } : Jvm.MethodName)) ∈ lw_all := lw_g (lw_at lw_m6 6 rfl) rfl
theorem q1325 : (Jvm.Cond.code ({ cls := "LiarsCock$Sets", name := "first", desc := "(JI)I" } : Jvm.MethodName) prog_24_method_3_code (6 : Nat) (Option.some Jvm.ClassFile.FieldType.int)) ∈ lw_all := lw_g (lw_at lw_m6 7 rfl) rfl
theorem q1326 : (Jvm.Cond.methodLink "LiarsCock$Sets" (59 : Nat) ({ cls := "LiarsCock$Sets", name := "find", desc := "()V" } : Jvm.MethodName)) ∈ lw_all := lw_g (lw_at lw_m6 8 rfl) rfl
theorem q1327 : (Jvm.Cond.instanceMethod ({ cls := "LiarsCock$Sets", name := "find", desc := "()V" } : Jvm.MethodName)) ∈ lw_all := lw_g (lw_at lw_m6 9 rfl) rfl
theorem q1328 : (Jvm.Cond.selects "LiarsCock$Sets" ({ cls := "LiarsCock$Sets", name := "find", desc := "()V" } : Jvm.MethodName) ({ cls := "LiarsCock$Sets", name := "find", desc := "()V" } : Jvm.MethodName)) ∈ lw_all := lw_g (lw_at lw_m6 10 rfl) rfl
theorem q1329 : (Jvm.Cond.code ({ cls := "LiarsCock$Sets", name := "find", desc := "()V" } : Jvm.MethodName) prog_24_method_2_code (3 : Nat) (Option.none : Option Jvm.ClassFile.FieldType)) ∈ lw_all := lw_g (lw_at lw_m6 11 rfl) rfl
theorem q1330 : (Jvm.Cond.methodLink "LiarsCock$Sets" (26 : Nat) ({ cls := "java/util/ArrayList", name := "size", desc := "()I" } : Jvm.MethodName)) ∈ lw_all := lw_g (lw_at lw_m6 12 rfl) rfl
theorem q1331 : (Jvm.Cond.methodLink "LiarsCock$Sets" (32 : Nat) ({ cls := "java/util/ArrayList", name := "get", desc := "(I)Ljava/lang/Object;" } : Jvm.MethodName)) ∈ lw_all := lw_g (lw_at lw_m6 13 rfl) rfl
theorem q1332 : (Jvm.Cond.classLink "LiarsCock$Sets" (36 : Nat) "LiarsCock$Look") ∈ lw_all := lw_g (lw_at lw_m6 14 rfl) rfl
theorem q1333 : (Jvm.Cond.methodLinkNest "LiarsCock$Sets" (38 : Nat) ({ cls := "LiarsCock", name := "fits", desc := "(LLiarsCock$Look;)J" } : Jvm.MethodName) "LiarsCock") ∈ lw_tbl := lw_at lw_m6 15 rfl
theorem q1334 : (Jvm.Cond.methodLinkNest "LiarsCock$Sets" (52 : Nat) ({ cls := "LiarsCock", name := "allLooks", desc := "()I" } : Jvm.MethodName) "LiarsCock") ∈ lw_tbl := lw_at lw_m6 16 rfl
theorem q1335 : (Jvm.Cond.methodLinkNest "LiarsCock$Sets" (55 : Nat) ({ cls := "LiarsCock", name := "has", desc := "(JI)Z" } : Jvm.MethodName) "LiarsCock") ∈ lw_tbl := lw_at lw_m6 17 rfl
theorem q1336 : (Jvm.Cond.methodLinkNest "LiarsCock$Sets" (62 : Nat) ({ cls := "LiarsCock", name := "sureBy", desc := "(JJ)I" } : Jvm.MethodName) "LiarsCock") ∈ lw_tbl := lw_at lw_m6 18 rfl
theorem q1337 : (Jvm.Cond.methodLinkNest "LiarsCock$Sets" (66 : Nat) ({ cls := "LiarsCock", name := "bits", desc := "(J)I" } : Jvm.MethodName) "LiarsCock") ∈ lw_tbl := lw_at lw_m6 19 rfl
theorem q2264 : (Jvm.Cond.castable "LiarsCock$Sets" "java/lang/Object") ∈ lw_tbl := lw_at lw_m9 226 rfl
theorem in_X6 : ∀ w ∈ wsX60, w ∈ lw_all := lw_in wsX60 [356, 358, 360] (by decide +kernel) (by decide +kernel)

/-! LiarsCock$Bearings -/
set_option maxRecDepth 100000
def RX7 : String := "LiarsCock$Bearings"
def TX7 : u_T := fun k => match k with
  | 0 => ("LiarsCock$Bearings", "of", "[I", true)
  | 1 => ("LiarsCock$Bearings", "most", "I", false)
  | 2 => ("LiarsCock$Bearings", "many", "I", false)
  | _ => ("LiarsCock$Bearings", "this$0", "LLiarsCock;", true)
def tyX7 : Nat → FieldType := fun k => match k with
  | 0 => .array .int
  | 1 => .int
  | 2 => .int
  | _ => .object "LiarsCock"
abbrev wsX70 : List Cond := u_ws RX7 TX7 4
theorem nmX7 : ∀ a, a < 4 → ∀ b, b < 4 → a ≠ b → (TX7 a).2.1 ≠ (TX7 b).2.1 := by decide +kernel
theorem tyX7_ok : ∀ k, k < 4 → parseFieldDescriptor (TX7 k).2.2.1 = some (tyX7 k) := by decide +kernel
abbrev cX7_init : ByteArray := prog_3_method_1_code
def yX7_init : MethodName := ⟨RX7, "<init>", "(LLiarsCock;)V"⟩
def dkwX7_init_0 : List UInt8 := [42, 43, 181, 0, 3, 42, 183, 0, 9, 42, 17, 1, 104, 188, 10, 181, 0, 15, 177]
abbrev dktX7_init_0 : List UInt8 := dkwX7_init_0 ++ []
theorem dksX7_init_0 : cX7_init.data.toList.drop 0 = dktX7_init_0 := by decide +kernel
theorem dX7_init_0 : decode cX7_init 0 = .ok (.aload_n 0, 1) := dk_42 (dk_at dksX7_init_0 0 rfl rfl)
theorem dX7_init_1 : decode cX7_init 1 = .ok (.aload_n 1, 1) := dk_43 (dk_at dksX7_init_0 1 rfl rfl)
theorem dX7_init_2 : decode cX7_init 2 = .ok (.putfield 3, 3) := dk_181 0 3 (dk_at dksX7_init_0 2 rfl rfl)
theorem dX7_init_5 : decode cX7_init 5 = .ok (.aload_n 0, 1) := dk_42 (dk_at dksX7_init_0 5 rfl rfl)
theorem dX7_init_6 : decode cX7_init 6 = .ok (.invokespecial 9, 3) := dk_183 0 9 (dk_at dksX7_init_0 6 rfl rfl)
theorem dX7_init_9 : decode cX7_init 9 = .ok (.aload_n 0, 1) := dk_42 (dk_at dksX7_init_0 9 rfl rfl)
theorem dX7_init_10 : decode cX7_init 10 = .ok (.sipush 360, 3) := dk_17 1 104 (dk_at dksX7_init_0 10 rfl rfl)
theorem dX7_init_13 : decode cX7_init 13 = .ok (.newarray .int, 2) := dk_188_10 (dk_at dksX7_init_0 13 rfl rfl)
theorem dX7_init_15 : decode cX7_init 15 = .ok (.putfield 15, 3) := dk_181 0 15 (dk_at dksX7_init_0 15 rfl rfl)
theorem dX7_init_18 : decode cX7_init 18 = .ok (.return_, 1) := dk_177 (dk_at dksX7_init_0 18 rfl rfl)
abbrev cX7_find : ByteArray := prog_3_method_2_code
def yX7_find : MethodName := ⟨RX7, "find", "(JII)V"⟩
def dkwX7_find_5 : List UInt8 := [180, 0, 19, 42, 180, 0, 15, 21, 6, 46, 184, 0, 44, 181, 0, 19, 132, 5, 1, 167, 255, 163, 177]
abbrev dktX7_find_5 : List UInt8 := dkwX7_find_5 ++ []
def dkwX7_find_4 : List UInt8 := [89, 180, 0, 23, 4, 96, 181, 0, 23, 42, 180, 0, 15, 21, 6, 92, 46, 4, 96, 79, 42, 42]
abbrev dktX7_find_4 : List UInt8 := dkwX7_find_4 ++ dktX7_find_5
def dkwX7_find_3 : List UInt8 := [180, 0, 3, 29, 21, 4, 21, 5, 182, 0, 40, 54, 6, 42, 180, 0, 15, 21, 6, 46, 154, 0, 13, 42]
abbrev dktX7_find_3 : List UInt8 := dkwX7_find_3 ++ dktX7_find_4
def dkwX7_find_2 : List UInt8 := [180, 0, 26, 182, 0, 30, 162, 0, 84, 31, 21, 5, 184, 0, 36, 154, 0, 6, 167, 0, 66, 42]
abbrev dktX7_find_2 : List UInt8 := dkwX7_find_2 ++ dktX7_find_3
def dkwX7_find_1 : List UInt8 := [167, 255, 237, 42, 3, 181, 0, 19, 42, 3, 181, 0, 23, 3, 54, 5, 21, 5, 42, 180, 0, 3]
abbrev dktX7_find_1 : List UInt8 := dkwX7_find_1 ++ dktX7_find_2
def dkwX7_find_0 : List UInt8 := [3, 54, 5, 21, 5, 17, 1, 104, 162, 0, 17, 42, 180, 0, 15, 21, 5, 3, 79, 132, 5, 1]
abbrev dktX7_find_0 : List UInt8 := dkwX7_find_0 ++ dktX7_find_1
theorem dksX7_find_0 : cX7_find.data.toList.drop 0 = dktX7_find_0 := by decide +kernel
theorem dksX7_find_1 : cX7_find.data.toList.drop 22 = dktX7_find_1 := dk_seg dksX7_find_0 22 rfl rfl
theorem dksX7_find_2 : cX7_find.data.toList.drop 44 = dktX7_find_2 := dk_seg dksX7_find_1 22 rfl rfl
theorem dksX7_find_3 : cX7_find.data.toList.drop 66 = dktX7_find_3 := dk_seg dksX7_find_2 22 rfl rfl
theorem dksX7_find_4 : cX7_find.data.toList.drop 90 = dktX7_find_4 := dk_seg dksX7_find_3 24 rfl rfl
theorem dksX7_find_5 : cX7_find.data.toList.drop 112 = dktX7_find_5 := dk_seg dksX7_find_4 22 rfl rfl
theorem dX7_find_0 : decode cX7_find 0 = .ok (.iconst 0, 1) := dk_3 (dk_at dksX7_find_0 0 rfl rfl)
theorem dX7_find_1 : decode cX7_find 1 = .ok (.istore 5, 2) := dk_54 5 (dk_at dksX7_find_0 1 rfl rfl)
theorem dX7_find_3 : decode cX7_find 3 = .ok (.iload 5, 2) := dk_21 5 (dk_at dksX7_find_0 3 rfl rfl)
theorem dX7_find_5 : decode cX7_find 5 = .ok (.sipush 360, 3) := dk_17 1 104 (dk_at dksX7_find_0 5 rfl rfl)
theorem dX7_find_8 : decode cX7_find 8 = .ok (.if_icmp .ge 17, 3) := dk_162 0 17 (dk_at dksX7_find_0 8 rfl rfl)
theorem dX7_find_11 : decode cX7_find 11 = .ok (.aload_n 0, 1) := dk_42 (dk_at dksX7_find_0 11 rfl rfl)
theorem dX7_find_12 : decode cX7_find 12 = .ok (.getfield 15, 3) := dk_180 0 15 (dk_at dksX7_find_0 12 rfl rfl)
theorem dX7_find_15 : decode cX7_find 15 = .ok (.iload 5, 2) := dk_21 5 (dk_at dksX7_find_0 15 rfl rfl)
theorem dX7_find_17 : decode cX7_find 17 = .ok (.iconst 0, 1) := dk_3 (dk_at dksX7_find_0 17 rfl rfl)
theorem dX7_find_18 : decode cX7_find 18 = .ok (.iastore, 1) := dk_79 (dk_at dksX7_find_0 18 rfl rfl)
theorem dX7_find_19 : decode cX7_find 19 = .ok (.iinc 5 1, 3) := dk_132 5 1 (dk_at dksX7_find_0 19 rfl rfl)
theorem dX7_find_22 : decode cX7_find 22 = .ok (.goto (-19), 3) := dk_167 255 237 (dk_at dksX7_find_1 0 rfl rfl)
theorem dX7_find_25 : decode cX7_find 25 = .ok (.aload_n 0, 1) := dk_42 (dk_at dksX7_find_1 3 rfl rfl)
theorem dX7_find_26 : decode cX7_find 26 = .ok (.iconst 0, 1) := dk_3 (dk_at dksX7_find_1 4 rfl rfl)
theorem dX7_find_27 : decode cX7_find 27 = .ok (.putfield 19, 3) := dk_181 0 19 (dk_at dksX7_find_1 5 rfl rfl)
theorem dX7_find_30 : decode cX7_find 30 = .ok (.aload_n 0, 1) := dk_42 (dk_at dksX7_find_1 8 rfl rfl)
theorem dX7_find_31 : decode cX7_find 31 = .ok (.iconst 0, 1) := dk_3 (dk_at dksX7_find_1 9 rfl rfl)
theorem dX7_find_32 : decode cX7_find 32 = .ok (.putfield 23, 3) := dk_181 0 23 (dk_at dksX7_find_1 10 rfl rfl)
theorem dX7_find_35 : decode cX7_find 35 = .ok (.iconst 0, 1) := dk_3 (dk_at dksX7_find_1 13 rfl rfl)
theorem dX7_find_36 : decode cX7_find 36 = .ok (.istore 5, 2) := dk_54 5 (dk_at dksX7_find_1 14 rfl rfl)
theorem dX7_find_38 : decode cX7_find 38 = .ok (.iload 5, 2) := dk_21 5 (dk_at dksX7_find_1 16 rfl rfl)
theorem dX7_find_40 : decode cX7_find 40 = .ok (.aload_n 0, 1) := dk_42 (dk_at dksX7_find_1 18 rfl rfl)
theorem dX7_find_41 : decode cX7_find 41 = .ok (.getfield 3, 3) := dk_180 0 3 (dk_at dksX7_find_1 19 rfl rfl)
theorem dX7_find_44 : decode cX7_find 44 = .ok (.getfield 26, 3) := dk_180 0 26 (dk_at dksX7_find_2 0 rfl rfl)
theorem dX7_find_47 : decode cX7_find 47 = .ok (.invokevirtual 30, 3) := dk_182 0 30 (dk_at dksX7_find_2 3 rfl rfl)
theorem dX7_find_50 : decode cX7_find 50 = .ok (.if_icmp .ge 84, 3) := dk_162 0 84 (dk_at dksX7_find_2 6 rfl rfl)
theorem dX7_find_53 : decode cX7_find 53 = .ok (.lload_n 1, 1) := dk_31 (dk_at dksX7_find_2 9 rfl rfl)
theorem dX7_find_54 : decode cX7_find 54 = .ok (.iload 5, 2) := dk_21 5 (dk_at dksX7_find_2 10 rfl rfl)
theorem dX7_find_56 : decode cX7_find 56 = .ok (.invokestatic 36, 3) := dk_184 0 36 (dk_at dksX7_find_2 12 rfl rfl)
theorem dX7_find_59 : decode cX7_find 59 = .ok (.ifCond .ne 6, 3) := dk_154 0 6 (dk_at dksX7_find_2 15 rfl rfl)
theorem dX7_find_62 : decode cX7_find 62 = .ok (.goto 66, 3) := dk_167 0 66 (dk_at dksX7_find_2 18 rfl rfl)
theorem dX7_find_65 : decode cX7_find 65 = .ok (.aload_n 0, 1) := dk_42 (dk_at dksX7_find_2 21 rfl rfl)
theorem dX7_find_66 : decode cX7_find 66 = .ok (.getfield 3, 3) := dk_180 0 3 (dk_at dksX7_find_3 0 rfl rfl)
theorem dX7_find_69 : decode cX7_find 69 = .ok (.iload_n 3, 1) := dk_29 (dk_at dksX7_find_3 3 rfl rfl)
theorem dX7_find_70 : decode cX7_find 70 = .ok (.iload 4, 2) := dk_21 4 (dk_at dksX7_find_3 4 rfl rfl)
theorem dX7_find_72 : decode cX7_find 72 = .ok (.iload 5, 2) := dk_21 5 (dk_at dksX7_find_3 6 rfl rfl)
theorem dX7_find_74 : decode cX7_find 74 = .ok (.invokevirtual 40, 3) := dk_182 0 40 (dk_at dksX7_find_3 8 rfl rfl)
theorem dX7_find_77 : decode cX7_find 77 = .ok (.istore 6, 2) := dk_54 6 (dk_at dksX7_find_3 11 rfl rfl)
theorem dX7_find_79 : decode cX7_find 79 = .ok (.aload_n 0, 1) := dk_42 (dk_at dksX7_find_3 13 rfl rfl)
theorem dX7_find_80 : decode cX7_find 80 = .ok (.getfield 15, 3) := dk_180 0 15 (dk_at dksX7_find_3 14 rfl rfl)
theorem dX7_find_83 : decode cX7_find 83 = .ok (.iload 6, 2) := dk_21 6 (dk_at dksX7_find_3 17 rfl rfl)
theorem dX7_find_85 : decode cX7_find 85 = .ok (.iaload, 1) := dk_46 (dk_at dksX7_find_3 19 rfl rfl)
theorem dX7_find_86 : decode cX7_find 86 = .ok (.ifCond .ne 13, 3) := dk_154 0 13 (dk_at dksX7_find_3 20 rfl rfl)
theorem dX7_find_89 : decode cX7_find 89 = .ok (.aload_n 0, 1) := dk_42 (dk_at dksX7_find_3 23 rfl rfl)
theorem dX7_find_90 : decode cX7_find 90 = .ok (.dup, 1) := dk_89 (dk_at dksX7_find_4 0 rfl rfl)
theorem dX7_find_91 : decode cX7_find 91 = .ok (.getfield 23, 3) := dk_180 0 23 (dk_at dksX7_find_4 1 rfl rfl)
theorem dX7_find_94 : decode cX7_find 94 = .ok (.iconst 1, 1) := dk_4 (dk_at dksX7_find_4 4 rfl rfl)
theorem dX7_find_95 : decode cX7_find 95 = .ok (.iadd, 1) := dk_96 (dk_at dksX7_find_4 5 rfl rfl)
theorem dX7_find_96 : decode cX7_find 96 = .ok (.putfield 23, 3) := dk_181 0 23 (dk_at dksX7_find_4 6 rfl rfl)
theorem dX7_find_99 : decode cX7_find 99 = .ok (.aload_n 0, 1) := dk_42 (dk_at dksX7_find_4 9 rfl rfl)
theorem dX7_find_100 : decode cX7_find 100 = .ok (.getfield 15, 3) := dk_180 0 15 (dk_at dksX7_find_4 10 rfl rfl)
theorem dX7_find_103 : decode cX7_find 103 = .ok (.iload 6, 2) := dk_21 6 (dk_at dksX7_find_4 13 rfl rfl)
theorem dX7_find_105 : decode cX7_find 105 = .ok (.dup2, 1) := dk_92 (dk_at dksX7_find_4 15 rfl rfl)
theorem dX7_find_106 : decode cX7_find 106 = .ok (.iaload, 1) := dk_46 (dk_at dksX7_find_4 16 rfl rfl)
theorem dX7_find_107 : decode cX7_find 107 = .ok (.iconst 1, 1) := dk_4 (dk_at dksX7_find_4 17 rfl rfl)
theorem dX7_find_108 : decode cX7_find 108 = .ok (.iadd, 1) := dk_96 (dk_at dksX7_find_4 18 rfl rfl)
theorem dX7_find_109 : decode cX7_find 109 = .ok (.iastore, 1) := dk_79 (dk_at dksX7_find_4 19 rfl rfl)
theorem dX7_find_110 : decode cX7_find 110 = .ok (.aload_n 0, 1) := dk_42 (dk_at dksX7_find_4 20 rfl rfl)
theorem dX7_find_111 : decode cX7_find 111 = .ok (.aload_n 0, 1) := dk_42 (dk_at dksX7_find_4 21 rfl rfl)
theorem dX7_find_112 : decode cX7_find 112 = .ok (.getfield 19, 3) := dk_180 0 19 (dk_at dksX7_find_5 0 rfl rfl)
theorem dX7_find_115 : decode cX7_find 115 = .ok (.aload_n 0, 1) := dk_42 (dk_at dksX7_find_5 3 rfl rfl)
theorem dX7_find_116 : decode cX7_find 116 = .ok (.getfield 15, 3) := dk_180 0 15 (dk_at dksX7_find_5 4 rfl rfl)
theorem dX7_find_119 : decode cX7_find 119 = .ok (.iload 6, 2) := dk_21 6 (dk_at dksX7_find_5 7 rfl rfl)
theorem dX7_find_121 : decode cX7_find 121 = .ok (.iaload, 1) := dk_46 (dk_at dksX7_find_5 9 rfl rfl)
theorem dX7_find_122 : decode cX7_find 122 = .ok (.invokestatic 44, 3) := dk_184 0 44 (dk_at dksX7_find_5 10 rfl rfl)
theorem dX7_find_125 : decode cX7_find 125 = .ok (.putfield 19, 3) := dk_181 0 19 (dk_at dksX7_find_5 13 rfl rfl)
theorem dX7_find_128 : decode cX7_find 128 = .ok (.iinc 5 1, 3) := dk_132 5 1 (dk_at dksX7_find_5 16 rfl rfl)
theorem dX7_find_131 : decode cX7_find 131 = .ok (.goto (-93), 3) := dk_167 255 163 (dk_at dksX7_find_5 19 rfl rfl)
theorem dX7_find_134 : decode cX7_find 134 = .ok (.return_, 1) := dk_177 (dk_at dksX7_find_5 22 rfl rfl)
theorem q128 : (Jvm.Cond.initialized "LiarsCock$Bearings") ∈ lw_all := lw_g (lw_at lw_m1 10 rfl) rfl
theorem q364 : (Jvm.Cond.instantiable "LiarsCock$Bearings" (4 : Nat)) ∈ lw_all := lw_g (lw_at lw_m2 6 rfl) rfl
theorem q366 : (Jvm.Cond.instanceMethod ({ cls := "LiarsCock$Bearings", name := "<init>", desc := "(LLiarsCock;)V" } : Jvm.MethodName)) ∈ lw_all := lw_g (lw_at lw_m2 8 rfl) rfl
theorem q367 : (Jvm.Cond.code ({ cls := "LiarsCock$Bearings", name := "<init>", desc := "(LLiarsCock;)V" } : Jvm.MethodName) prog_3_method_1_code (2 : Nat) (Option.none : Option Jvm.ClassFile.FieldType)) ∈ lw_all := lw_g (lw_at lw_m2 9 rfl) rfl
theorem q368 : (Jvm.Cond.methodLink "LiarsCock$Bearings" (9 : Nat) ({ cls := "java/lang/Object", name := "<init>", desc := "()V" } : Jvm.MethodName)) ∈ lw_all := lw_g (lw_at lw_m2 10 rfl) rfl
theorem q369 : (Jvm.Cond.fieldLink "LiarsCock$Bearings" (15 : Nat) "LiarsCock$Bearings" "of" "[I") ∈ lw_all := lw_g (lw_at lw_m2 11 rfl) rfl
theorem q370 : (Jvm.Cond.fieldLink "LiarsCock$Bearings" (19 : Nat) "LiarsCock$Bearings" "most" "I") ∈ lw_all := lw_g (lw_at lw_m2 12 rfl) rfl
theorem q372 : (Jvm.Cond.fieldLink "LiarsCock$Bearings" (23 : Nat) "LiarsCock$Bearings" "many" "I") ∈ lw_all := lw_g (lw_at lw_m2 14 rfl) rfl
theorem q374 : (Jvm.Cond.fieldLink "LiarsCock$Bearings" (3 : Nat) "LiarsCock$Bearings" "this$0" "LLiarsCock;") ∈ lw_all := lw_g (lw_at lw_m2 16 rfl) rfl
theorem q375 : (Jvm.Cond.laysFinal "LiarsCock$Bearings" "LiarsCock$Bearings" "of" "[I") ∈ lw_all := lw_g (lw_at lw_m2 17 rfl) rfl
theorem q376 : (Jvm.Cond.soleField "LiarsCock$Bearings" "of") ∈ lw_all := lw_g (lw_at lw_m2 18 rfl) rfl
theorem q377 : (Jvm.Cond.lays "LiarsCock$Bearings" "LiarsCock$Bearings" "most" "I") ∈ lw_all := lw_g (lw_at lw_m2 19 rfl) rfl
theorem q378 : (Jvm.Cond.soleField "LiarsCock$Bearings" "most") ∈ lw_all := lw_g (lw_at lw_m2 20 rfl) rfl
theorem q379 : (Jvm.Cond.lays "LiarsCock$Bearings" "LiarsCock$Bearings" "many" "I") ∈ lw_all := lw_g (lw_at lw_m2 21 rfl) rfl
theorem q380 : (Jvm.Cond.soleField "LiarsCock$Bearings" "many") ∈ lw_all := lw_g (lw_at lw_m2 22 rfl) rfl
theorem q381 : (Jvm.Cond.laysFinal "LiarsCock$Bearings" "LiarsCock$Bearings" "this$0" "LLiarsCock;") ∈ lw_all := lw_g (lw_at lw_m2 23 rfl) rfl
theorem q382 : (Jvm.Cond.soleField "LiarsCock$Bearings" "this$0") ∈ lw_all := lw_g (lw_at lw_m2 24 rfl) rfl
theorem q383 : (Jvm.Cond.superclass "LiarsCock$Bearings" "java/lang/Object") ∈ lw_all := lw_g (lw_at lw_m2 25 rfl) rfl
theorem q418 : (Jvm.Cond.fieldLinkNest "LiarsCock$Bearings" (26 : Nat) "LiarsCock" "parish" "LLiarsCock$Parish;" "LiarsCock") ∈ lw_tbl := lw_at lw_m2 60 rfl
theorem q779 : (Jvm.Cond.selects "LiarsCock$Bearings" ({ cls := "java/lang/Object", name := "getClass", desc := "()Ljava/lang/Class;" } : Jvm.MethodName) ({ cls := "java/lang/Object", name := "getClass", desc := "()Ljava/lang/Class;" } : Jvm.MethodName)) ∈ lw_all := lw_g (lw_at lw_m3 181 rfl) rfl
theorem q1357 : (Jvm.Cond.instanceMethod ({ cls := "LiarsCock$Bearings", name := "find", desc := "(JII)V" } : Jvm.MethodName)) ∈ lw_all := lw_g (lw_at lw_m6 39 rfl) rfl
theorem q1358 : (Jvm.Cond.selects "LiarsCock$Bearings" ({ cls := "LiarsCock$Bearings", name := "find", desc := "(JII)V" } : Jvm.MethodName) ({ cls := "LiarsCock$Bearings", name := "find", desc := "(JII)V" } : Jvm.MethodName)) ∈ lw_all := lw_g (lw_at lw_m6 40 rfl) rfl
theorem q1359 : (Jvm.Cond.code ({ cls := "LiarsCock$Bearings", name := "find", desc := "(JII)V" } : Jvm.MethodName) prog_3_method_2_code (7 : Nat) (Option.none : Option Jvm.ClassFile.FieldType)) ∈ lw_all := lw_g (lw_at lw_m6 41 rfl) rfl
theorem q1360 : (Jvm.Cond.methodLink "LiarsCock$Bearings" (30 : Nat) ({ cls := "LiarsCock$Parish", name := "worlds", desc := "()I" } : Jvm.MethodName)) ∈ lw_all := lw_g (lw_at lw_m6 42 rfl) rfl
theorem q1361 : (Jvm.Cond.methodLinkNest "LiarsCock$Bearings" (36 : Nat) ({ cls := "LiarsCock", name := "has", desc := "(JI)Z" } : Jvm.MethodName) "LiarsCock") ∈ lw_tbl := lw_at lw_m6 43 rfl
theorem q1362 : (Jvm.Cond.methodLinkNest "LiarsCock$Bearings" (40 : Nat) ({ cls := "LiarsCock", name := "bearingAt", desc := "(III)I" } : Jvm.MethodName) "LiarsCock") ∈ lw_tbl := lw_at lw_m6 44 rfl
theorem q1363 : (Jvm.Cond.methodLink "LiarsCock$Bearings" (44 : Nat) ({ cls := "java/lang/Math", name := "max", desc := "(II)I" } : Jvm.MethodName)) ∈ lw_all := lw_g (lw_at lw_m6 45 rfl) rfl
theorem q2265 : (Jvm.Cond.castable "LiarsCock$Bearings" "java/lang/Object") ∈ lw_tbl := lw_at lw_m9 227 rfl
theorem in_X7 : ∀ w ∈ wsX70, w ∈ lw_all := lw_in wsX70 [375, 377, 379, 381] (by decide +kernel) (by decide +kernel)

/-! LiarsCock$Lookout -/
set_option maxRecDepth 100000
def RX8 : String := "LiarsCock$Lookout"
def TX8 : u_T := fun k => match k with
  | 0 => ("LiarsCock$Lookout", "minutes", "[I", true)
  | 1 => ("LiarsCock$Lookout", "many", "I", false)
  | 2 => ("LiarsCock$Lookout", "at", "[I", true)
  | 3 => ("LiarsCock$Lookout", "can", "J", false)
  | 4 => ("LiarsCock$Lookout", "so", "J", false)
  | 5 => ("LiarsCock$Lookout", "cock", "I", false)
  | _ => ("LiarsCock$Lookout", "this$0", "LLiarsCock;", true)
def tyX8 : Nat → FieldType := fun k => match k with
  | 0 => .array .int
  | 1 => .int
  | 2 => .array .int
  | 3 => .long
  | 4 => .long
  | 5 => .int
  | _ => .object "LiarsCock"
abbrev wsX80 : List Cond := u_ws RX8 TX8 7
theorem nmX8 : ∀ a, a < 7 → ∀ b, b < 7 → a ≠ b → (TX8 a).2.1 ≠ (TX8 b).2.1 := by decide +kernel
theorem tyX8_ok : ∀ k, k < 7 → parseFieldDescriptor (TX8 k).2.2.1 = some (tyX8 k) := by decide +kernel
abbrev cX8_init : ByteArray := prog_12_method_1_code
def yX8_init : MethodName := ⟨RX8, "<init>", "(LLiarsCock;)V"⟩
def dkwX8_init_1 : List UInt8 := [181, 0, 19, 177]
abbrev dktX8_init_1 : List UInt8 := dkwX8_init_1 ++ []
def dkwX8_init_0 : List UInt8 := [42, 43, 181, 0, 3, 42, 183, 0, 9, 42, 17, 5, 160, 188, 10, 181, 0, 15, 42, 6, 188, 10]
abbrev dktX8_init_0 : List UInt8 := dkwX8_init_0 ++ dktX8_init_1
theorem dksX8_init_0 : cX8_init.data.toList.drop 0 = dktX8_init_0 := by decide +kernel
theorem dksX8_init_1 : cX8_init.data.toList.drop 22 = dktX8_init_1 := dk_seg dksX8_init_0 22 rfl rfl
theorem dX8_init_0 : decode cX8_init 0 = .ok (.aload_n 0, 1) := dk_42 (dk_at dksX8_init_0 0 rfl rfl)
theorem dX8_init_1 : decode cX8_init 1 = .ok (.aload_n 1, 1) := dk_43 (dk_at dksX8_init_0 1 rfl rfl)
theorem dX8_init_2 : decode cX8_init 2 = .ok (.putfield 3, 3) := dk_181 0 3 (dk_at dksX8_init_0 2 rfl rfl)
theorem dX8_init_5 : decode cX8_init 5 = .ok (.aload_n 0, 1) := dk_42 (dk_at dksX8_init_0 5 rfl rfl)
theorem dX8_init_6 : decode cX8_init 6 = .ok (.invokespecial 9, 3) := dk_183 0 9 (dk_at dksX8_init_0 6 rfl rfl)
theorem dX8_init_9 : decode cX8_init 9 = .ok (.aload_n 0, 1) := dk_42 (dk_at dksX8_init_0 9 rfl rfl)
theorem dX8_init_10 : decode cX8_init 10 = .ok (.sipush 1440, 3) := dk_17 5 160 (dk_at dksX8_init_0 10 rfl rfl)
theorem dX8_init_13 : decode cX8_init 13 = .ok (.newarray .int, 2) := dk_188_10 (dk_at dksX8_init_0 13 rfl rfl)
theorem dX8_init_15 : decode cX8_init 15 = .ok (.putfield 15, 3) := dk_181 0 15 (dk_at dksX8_init_0 15 rfl rfl)
theorem dX8_init_18 : decode cX8_init 18 = .ok (.aload_n 0, 1) := dk_42 (dk_at dksX8_init_0 18 rfl rfl)
theorem dX8_init_19 : decode cX8_init 19 = .ok (.iconst 3, 1) := dk_6 (dk_at dksX8_init_0 19 rfl rfl)
theorem dX8_init_20 : decode cX8_init 20 = .ok (.newarray .int, 2) := dk_188_10 (dk_at dksX8_init_0 20 rfl rfl)
theorem dX8_init_22 : decode cX8_init 22 = .ok (.putfield 19, 3) := dk_181 0 19 (dk_at dksX8_init_1 0 rfl rfl)
theorem dX8_init_25 : decode cX8_init 25 = .ok (.return_, 1) := dk_177 (dk_at dksX8_init_1 3 rfl rfl)
abbrev cX8_fewest : ByteArray := prog_12_method_4_code
def yX8_fewest : MethodName := ⟨RX8, "fewest", "(IJ)I"⟩
def dkwX8_fewest_1 : List UInt8 := [182, 0, 66, 153, 0, 6, 21, 4, 172, 132, 4, 1, 167, 255, 229, 2, 172]
abbrev dktX8_fewest_1 : List UInt8 := dkwX8_fewest_1 ++ []
def dkwX8_fewest_0 : List UInt8 := [42, 27, 32, 182, 0, 62, 3, 54, 4, 21, 4, 42, 180, 0, 19, 190, 163, 0, 23, 42, 3, 3, 21, 4]
abbrev dktX8_fewest_0 : List UInt8 := dkwX8_fewest_0 ++ dktX8_fewest_1
theorem dksX8_fewest_0 : cX8_fewest.data.toList.drop 0 = dktX8_fewest_0 := by decide +kernel
theorem dksX8_fewest_1 : cX8_fewest.data.toList.drop 24 = dktX8_fewest_1 := dk_seg dksX8_fewest_0 24 rfl rfl
theorem dX8_fewest_0 : decode cX8_fewest 0 = .ok (.aload_n 0, 1) := dk_42 (dk_at dksX8_fewest_0 0 rfl rfl)
theorem dX8_fewest_1 : decode cX8_fewest 1 = .ok (.iload_n 1, 1) := dk_27 (dk_at dksX8_fewest_0 1 rfl rfl)
theorem dX8_fewest_2 : decode cX8_fewest 2 = .ok (.lload_n 2, 1) := dk_32 (dk_at dksX8_fewest_0 2 rfl rfl)
theorem dX8_fewest_3 : decode cX8_fewest 3 = .ok (.invokevirtual 62, 3) := dk_182 0 62 (dk_at dksX8_fewest_0 3 rfl rfl)
theorem dX8_fewest_6 : decode cX8_fewest 6 = .ok (.iconst 0, 1) := dk_3 (dk_at dksX8_fewest_0 6 rfl rfl)
theorem dX8_fewest_7 : decode cX8_fewest 7 = .ok (.istore 4, 2) := dk_54 4 (dk_at dksX8_fewest_0 7 rfl rfl)
theorem dX8_fewest_9 : decode cX8_fewest 9 = .ok (.iload 4, 2) := dk_21 4 (dk_at dksX8_fewest_0 9 rfl rfl)
theorem dX8_fewest_11 : decode cX8_fewest 11 = .ok (.aload_n 0, 1) := dk_42 (dk_at dksX8_fewest_0 11 rfl rfl)
theorem dX8_fewest_12 : decode cX8_fewest 12 = .ok (.getfield 19, 3) := dk_180 0 19 (dk_at dksX8_fewest_0 12 rfl rfl)
theorem dX8_fewest_15 : decode cX8_fewest 15 = .ok (.arraylength, 1) := dk_190 (dk_at dksX8_fewest_0 15 rfl rfl)
theorem dX8_fewest_16 : decode cX8_fewest 16 = .ok (.if_icmp .gt 23, 3) := dk_163 0 23 (dk_at dksX8_fewest_0 16 rfl rfl)
theorem dX8_fewest_19 : decode cX8_fewest 19 = .ok (.aload_n 0, 1) := dk_42 (dk_at dksX8_fewest_0 19 rfl rfl)
theorem dX8_fewest_20 : decode cX8_fewest 20 = .ok (.iconst 0, 1) := dk_3 (dk_at dksX8_fewest_0 20 rfl rfl)
theorem dX8_fewest_21 : decode cX8_fewest 21 = .ok (.iconst 0, 1) := dk_3 (dk_at dksX8_fewest_0 21 rfl rfl)
theorem dX8_fewest_22 : decode cX8_fewest 22 = .ok (.iload 4, 2) := dk_21 4 (dk_at dksX8_fewest_0 22 rfl rfl)
theorem dX8_fewest_24 : decode cX8_fewest 24 = .ok (.invokevirtual 66, 3) := dk_182 0 66 (dk_at dksX8_fewest_1 0 rfl rfl)
theorem dX8_fewest_27 : decode cX8_fewest 27 = .ok (.ifCond .eq 6, 3) := dk_153 0 6 (dk_at dksX8_fewest_1 3 rfl rfl)
theorem dX8_fewest_30 : decode cX8_fewest 30 = .ok (.iload 4, 2) := dk_21 4 (dk_at dksX8_fewest_1 6 rfl rfl)
theorem dX8_fewest_32 : decode cX8_fewest 32 = .ok (.ireturn, 1) := dk_172 (dk_at dksX8_fewest_1 8 rfl rfl)
theorem dX8_fewest_33 : decode cX8_fewest 33 = .ok (.iinc 4 1, 3) := dk_132 4 1 (dk_at dksX8_fewest_1 9 rfl rfl)
theorem dX8_fewest_36 : decode cX8_fewest 36 = .ok (.goto (-27), 3) := dk_167 255 229 (dk_at dksX8_fewest_1 12 rfl rfl)
theorem dX8_fewest_39 : decode cX8_fewest 39 = .ok (.iconst (-1), 1) := dk_2 (dk_at dksX8_fewest_1 15 rfl rfl)
theorem dX8_fewest_40 : decode cX8_fewest 40 = .ok (.ireturn, 1) := dk_172 (dk_at dksX8_fewest_1 16 rfl rfl)
abbrev cX8_find : ByteArray := prog_12_method_2_code
def yX8_find : MethodName := ⟨RX8, "find", "(IJ)V"⟩
def dkwX8_find_3 : List UInt8 := [132, 4, 1, 167, 255, 212, 177]
abbrev dktX8_find_3 : List UInt8 := dkwX8_find_3 ++ []
def dkwX8_find_2 : List UInt8 := [167, 0, 24, 42, 180, 0, 15, 42, 180, 0, 37, 21, 4, 79, 42, 89, 180, 0, 37, 4, 96, 181, 0, 37]
abbrev dktX8_find_2 : List UInt8 := dkwX8_find_2 ++ dktX8_find_3
def dkwX8_find_1 : List UInt8 := [181, 0, 37, 3, 54, 4, 21, 4, 17, 5, 159, 163, 0, 42, 42, 21, 4, 182, 0, 40, 154, 0, 6]
abbrev dktX8_find_1 : List UInt8 := dkwX8_find_1 ++ dktX8_find_2
def dkwX8_find_0 : List UInt8 := [42, 27, 181, 0, 22, 42, 32, 181, 0, 26, 42, 42, 180, 0, 3, 182, 0, 30, 181, 0, 34, 42, 3]
abbrev dktX8_find_0 : List UInt8 := dkwX8_find_0 ++ dktX8_find_1
theorem dksX8_find_0 : cX8_find.data.toList.drop 0 = dktX8_find_0 := by decide +kernel
theorem dksX8_find_1 : cX8_find.data.toList.drop 23 = dktX8_find_1 := dk_seg dksX8_find_0 23 rfl rfl
theorem dksX8_find_2 : cX8_find.data.toList.drop 46 = dktX8_find_2 := dk_seg dksX8_find_1 23 rfl rfl
theorem dksX8_find_3 : cX8_find.data.toList.drop 70 = dktX8_find_3 := dk_seg dksX8_find_2 24 rfl rfl
theorem dX8_find_0 : decode cX8_find 0 = .ok (.aload_n 0, 1) := dk_42 (dk_at dksX8_find_0 0 rfl rfl)
theorem dX8_find_1 : decode cX8_find 1 = .ok (.iload_n 1, 1) := dk_27 (dk_at dksX8_find_0 1 rfl rfl)
theorem dX8_find_2 : decode cX8_find 2 = .ok (.putfield 22, 3) := dk_181 0 22 (dk_at dksX8_find_0 2 rfl rfl)
theorem dX8_find_5 : decode cX8_find 5 = .ok (.aload_n 0, 1) := dk_42 (dk_at dksX8_find_0 5 rfl rfl)
theorem dX8_find_6 : decode cX8_find 6 = .ok (.lload_n 2, 1) := dk_32 (dk_at dksX8_find_0 6 rfl rfl)
theorem dX8_find_7 : decode cX8_find 7 = .ok (.putfield 26, 3) := dk_181 0 26 (dk_at dksX8_find_0 7 rfl rfl)
theorem dX8_find_10 : decode cX8_find 10 = .ok (.aload_n 0, 1) := dk_42 (dk_at dksX8_find_0 10 rfl rfl)
theorem dX8_find_11 : decode cX8_find 11 = .ok (.aload_n 0, 1) := dk_42 (dk_at dksX8_find_0 11 rfl rfl)
theorem dX8_find_12 : decode cX8_find 12 = .ok (.getfield 3, 3) := dk_180 0 3 (dk_at dksX8_find_0 12 rfl rfl)
theorem dX8_find_15 : decode cX8_find 15 = .ok (.invokevirtual 30, 3) := dk_182 0 30 (dk_at dksX8_find_0 15 rfl rfl)
theorem dX8_find_18 : decode cX8_find 18 = .ok (.putfield 34, 3) := dk_181 0 34 (dk_at dksX8_find_0 18 rfl rfl)
theorem dX8_find_21 : decode cX8_find 21 = .ok (.aload_n 0, 1) := dk_42 (dk_at dksX8_find_0 21 rfl rfl)
theorem dX8_find_22 : decode cX8_find 22 = .ok (.iconst 0, 1) := dk_3 (dk_at dksX8_find_0 22 rfl rfl)
theorem dX8_find_23 : decode cX8_find 23 = .ok (.putfield 37, 3) := dk_181 0 37 (dk_at dksX8_find_1 0 rfl rfl)
theorem dX8_find_26 : decode cX8_find 26 = .ok (.iconst 0, 1) := dk_3 (dk_at dksX8_find_1 3 rfl rfl)
theorem dX8_find_27 : decode cX8_find 27 = .ok (.istore 4, 2) := dk_54 4 (dk_at dksX8_find_1 4 rfl rfl)
theorem dX8_find_29 : decode cX8_find 29 = .ok (.iload 4, 2) := dk_21 4 (dk_at dksX8_find_1 6 rfl rfl)
theorem dX8_find_31 : decode cX8_find 31 = .ok (.sipush 1439, 3) := dk_17 5 159 (dk_at dksX8_find_1 8 rfl rfl)
theorem dX8_find_34 : decode cX8_find 34 = .ok (.if_icmp .gt 42, 3) := dk_163 0 42 (dk_at dksX8_find_1 11 rfl rfl)
theorem dX8_find_37 : decode cX8_find 37 = .ok (.aload_n 0, 1) := dk_42 (dk_at dksX8_find_1 14 rfl rfl)
theorem dX8_find_38 : decode cX8_find 38 = .ok (.iload 4, 2) := dk_21 4 (dk_at dksX8_find_1 15 rfl rfl)
theorem dX8_find_40 : decode cX8_find 40 = .ok (.invokevirtual 40, 3) := dk_182 0 40 (dk_at dksX8_find_1 17 rfl rfl)
theorem dX8_find_43 : decode cX8_find 43 = .ok (.ifCond .ne 6, 3) := dk_154 0 6 (dk_at dksX8_find_1 20 rfl rfl)
theorem dX8_find_46 : decode cX8_find 46 = .ok (.goto 24, 3) := dk_167 0 24 (dk_at dksX8_find_2 0 rfl rfl)
theorem dX8_find_49 : decode cX8_find 49 = .ok (.aload_n 0, 1) := dk_42 (dk_at dksX8_find_2 3 rfl rfl)
theorem dX8_find_50 : decode cX8_find 50 = .ok (.getfield 15, 3) := dk_180 0 15 (dk_at dksX8_find_2 4 rfl rfl)
theorem dX8_find_53 : decode cX8_find 53 = .ok (.aload_n 0, 1) := dk_42 (dk_at dksX8_find_2 7 rfl rfl)
theorem dX8_find_54 : decode cX8_find 54 = .ok (.getfield 37, 3) := dk_180 0 37 (dk_at dksX8_find_2 8 rfl rfl)
theorem dX8_find_57 : decode cX8_find 57 = .ok (.iload 4, 2) := dk_21 4 (dk_at dksX8_find_2 11 rfl rfl)
theorem dX8_find_59 : decode cX8_find 59 = .ok (.iastore, 1) := dk_79 (dk_at dksX8_find_2 13 rfl rfl)
theorem dX8_find_60 : decode cX8_find 60 = .ok (.aload_n 0, 1) := dk_42 (dk_at dksX8_find_2 14 rfl rfl)
theorem dX8_find_61 : decode cX8_find 61 = .ok (.dup, 1) := dk_89 (dk_at dksX8_find_2 15 rfl rfl)
theorem dX8_find_62 : decode cX8_find 62 = .ok (.getfield 37, 3) := dk_180 0 37 (dk_at dksX8_find_2 16 rfl rfl)
theorem dX8_find_65 : decode cX8_find 65 = .ok (.iconst 1, 1) := dk_4 (dk_at dksX8_find_2 19 rfl rfl)
theorem dX8_find_66 : decode cX8_find 66 = .ok (.iadd, 1) := dk_96 (dk_at dksX8_find_2 20 rfl rfl)
theorem dX8_find_67 : decode cX8_find 67 = .ok (.putfield 37, 3) := dk_181 0 37 (dk_at dksX8_find_2 21 rfl rfl)
theorem dX8_find_70 : decode cX8_find 70 = .ok (.iinc 4 1, 3) := dk_132 4 1 (dk_at dksX8_find_3 0 rfl rfl)
theorem dX8_find_73 : decode cX8_find 73 = .ok (.goto (-44), 3) := dk_167 255 212 (dk_at dksX8_find_3 3 rfl rfl)
theorem dX8_find_76 : decode cX8_find 76 = .ok (.return_, 1) := dk_177 (dk_at dksX8_find_3 6 rfl rfl)
abbrev cX8_mayTurn : ByteArray := prog_12_method_3_code
def yX8_mayTurn : MethodName := ⟨RX8, "mayTurn", "(I)Z"⟩
def dkwX8_mayTurn_3 : List UInt8 := [167, 255, 187, 3, 172]
abbrev dktX8_mayTurn_3 : List UInt8 := dkwX8_mayTurn_3 ++ []
def dkwX8_mayTurn_2 : List UInt8 := [42, 180, 0, 3, 42, 180, 0, 22, 27, 4, 100, 28, 182, 0, 58, 159, 0, 5, 4, 172, 132, 2, 1]
abbrev dktX8_mayTurn_2 : List UInt8 := dkwX8_mayTurn_2 ++ dktX8_mayTurn_3
def dkwX8_mayTurn_1 : List UInt8 := [153, 0, 44, 42, 180, 0, 3, 42, 180, 0, 22, 27, 28, 182, 0, 58, 27, 154, 0, 7, 2, 167, 0, 18]
abbrev dktX8_mayTurn_1 : List UInt8 := dkwX8_mayTurn_1 ++ dktX8_mayTurn_2
def dkwX8_mayTurn_0 : List UInt8 := [3, 61, 28, 42, 180, 0, 3, 180, 0, 44, 182, 0, 48, 162, 0, 61, 42, 180, 0, 34, 28, 184, 0, 54]
abbrev dktX8_mayTurn_0 : List UInt8 := dkwX8_mayTurn_0 ++ dktX8_mayTurn_1
theorem dksX8_mayTurn_0 : cX8_mayTurn.data.toList.drop 0 = dktX8_mayTurn_0 := by decide +kernel
theorem dksX8_mayTurn_1 : cX8_mayTurn.data.toList.drop 24 = dktX8_mayTurn_1 := dk_seg dksX8_mayTurn_0 24 rfl rfl
theorem dksX8_mayTurn_2 : cX8_mayTurn.data.toList.drop 48 = dktX8_mayTurn_2 := dk_seg dksX8_mayTurn_1 24 rfl rfl
theorem dksX8_mayTurn_3 : cX8_mayTurn.data.toList.drop 71 = dktX8_mayTurn_3 := dk_seg dksX8_mayTurn_2 23 rfl rfl
theorem dX8_mayTurn_0 : decode cX8_mayTurn 0 = .ok (.iconst 0, 1) := dk_3 (dk_at dksX8_mayTurn_0 0 rfl rfl)
theorem dX8_mayTurn_1 : decode cX8_mayTurn 1 = .ok (.istore_n 2, 1) := dk_61 (dk_at dksX8_mayTurn_0 1 rfl rfl)
theorem dX8_mayTurn_2 : decode cX8_mayTurn 2 = .ok (.iload_n 2, 1) := dk_28 (dk_at dksX8_mayTurn_0 2 rfl rfl)
theorem dX8_mayTurn_3 : decode cX8_mayTurn 3 = .ok (.aload_n 0, 1) := dk_42 (dk_at dksX8_mayTurn_0 3 rfl rfl)
theorem dX8_mayTurn_4 : decode cX8_mayTurn 4 = .ok (.getfield 3, 3) := dk_180 0 3 (dk_at dksX8_mayTurn_0 4 rfl rfl)
theorem dX8_mayTurn_7 : decode cX8_mayTurn 7 = .ok (.getfield 44, 3) := dk_180 0 44 (dk_at dksX8_mayTurn_0 7 rfl rfl)
theorem dX8_mayTurn_10 : decode cX8_mayTurn 10 = .ok (.invokevirtual 48, 3) := dk_182 0 48 (dk_at dksX8_mayTurn_0 10 rfl rfl)
theorem dX8_mayTurn_13 : decode cX8_mayTurn 13 = .ok (.if_icmp .ge 61, 3) := dk_162 0 61 (dk_at dksX8_mayTurn_0 13 rfl rfl)
theorem dX8_mayTurn_16 : decode cX8_mayTurn 16 = .ok (.aload_n 0, 1) := dk_42 (dk_at dksX8_mayTurn_0 16 rfl rfl)
theorem dX8_mayTurn_17 : decode cX8_mayTurn 17 = .ok (.getfield 34, 3) := dk_180 0 34 (dk_at dksX8_mayTurn_0 17 rfl rfl)
theorem dX8_mayTurn_20 : decode cX8_mayTurn 20 = .ok (.iload_n 2, 1) := dk_28 (dk_at dksX8_mayTurn_0 20 rfl rfl)
theorem dX8_mayTurn_21 : decode cX8_mayTurn 21 = .ok (.invokestatic 54, 3) := dk_184 0 54 (dk_at dksX8_mayTurn_0 21 rfl rfl)
theorem dX8_mayTurn_24 : decode cX8_mayTurn 24 = .ok (.ifCond .eq 44, 3) := dk_153 0 44 (dk_at dksX8_mayTurn_1 0 rfl rfl)
theorem dX8_mayTurn_27 : decode cX8_mayTurn 27 = .ok (.aload_n 0, 1) := dk_42 (dk_at dksX8_mayTurn_1 3 rfl rfl)
theorem dX8_mayTurn_28 : decode cX8_mayTurn 28 = .ok (.getfield 3, 3) := dk_180 0 3 (dk_at dksX8_mayTurn_1 4 rfl rfl)
theorem dX8_mayTurn_31 : decode cX8_mayTurn 31 = .ok (.aload_n 0, 1) := dk_42 (dk_at dksX8_mayTurn_1 7 rfl rfl)
theorem dX8_mayTurn_32 : decode cX8_mayTurn 32 = .ok (.getfield 22, 3) := dk_180 0 22 (dk_at dksX8_mayTurn_1 8 rfl rfl)
theorem dX8_mayTurn_35 : decode cX8_mayTurn 35 = .ok (.iload_n 1, 1) := dk_27 (dk_at dksX8_mayTurn_1 11 rfl rfl)
theorem dX8_mayTurn_36 : decode cX8_mayTurn 36 = .ok (.iload_n 2, 1) := dk_28 (dk_at dksX8_mayTurn_1 12 rfl rfl)
theorem dX8_mayTurn_37 : decode cX8_mayTurn 37 = .ok (.invokevirtual 58, 3) := dk_182 0 58 (dk_at dksX8_mayTurn_1 13 rfl rfl)
theorem dX8_mayTurn_40 : decode cX8_mayTurn 40 = .ok (.iload_n 1, 1) := dk_27 (dk_at dksX8_mayTurn_1 16 rfl rfl)
theorem dX8_mayTurn_41 : decode cX8_mayTurn 41 = .ok (.ifCond .ne 7, 3) := dk_154 0 7 (dk_at dksX8_mayTurn_1 17 rfl rfl)
theorem dX8_mayTurn_44 : decode cX8_mayTurn 44 = .ok (.iconst (-1), 1) := dk_2 (dk_at dksX8_mayTurn_1 20 rfl rfl)
theorem dX8_mayTurn_45 : decode cX8_mayTurn 45 = .ok (.goto 18, 3) := dk_167 0 18 (dk_at dksX8_mayTurn_1 21 rfl rfl)
theorem dX8_mayTurn_48 : decode cX8_mayTurn 48 = .ok (.aload_n 0, 1) := dk_42 (dk_at dksX8_mayTurn_2 0 rfl rfl)
theorem dX8_mayTurn_49 : decode cX8_mayTurn 49 = .ok (.getfield 3, 3) := dk_180 0 3 (dk_at dksX8_mayTurn_2 1 rfl rfl)
theorem dX8_mayTurn_52 : decode cX8_mayTurn 52 = .ok (.aload_n 0, 1) := dk_42 (dk_at dksX8_mayTurn_2 4 rfl rfl)
theorem dX8_mayTurn_53 : decode cX8_mayTurn 53 = .ok (.getfield 22, 3) := dk_180 0 22 (dk_at dksX8_mayTurn_2 5 rfl rfl)
theorem dX8_mayTurn_56 : decode cX8_mayTurn 56 = .ok (.iload_n 1, 1) := dk_27 (dk_at dksX8_mayTurn_2 8 rfl rfl)
theorem dX8_mayTurn_57 : decode cX8_mayTurn 57 = .ok (.iconst 1, 1) := dk_4 (dk_at dksX8_mayTurn_2 9 rfl rfl)
theorem dX8_mayTurn_58 : decode cX8_mayTurn 58 = .ok (.isub, 1) := dk_100 (dk_at dksX8_mayTurn_2 10 rfl rfl)
theorem dX8_mayTurn_59 : decode cX8_mayTurn 59 = .ok (.iload_n 2, 1) := dk_28 (dk_at dksX8_mayTurn_2 11 rfl rfl)
theorem dX8_mayTurn_60 : decode cX8_mayTurn 60 = .ok (.invokevirtual 58, 3) := dk_182 0 58 (dk_at dksX8_mayTurn_2 12 rfl rfl)
theorem dX8_mayTurn_63 : decode cX8_mayTurn 63 = .ok (.if_icmp .eq 5, 3) := dk_159 0 5 (dk_at dksX8_mayTurn_2 15 rfl rfl)
theorem dX8_mayTurn_66 : decode cX8_mayTurn 66 = .ok (.iconst 1, 1) := dk_4 (dk_at dksX8_mayTurn_2 18 rfl rfl)
theorem dX8_mayTurn_67 : decode cX8_mayTurn 67 = .ok (.ireturn, 1) := dk_172 (dk_at dksX8_mayTurn_2 19 rfl rfl)
theorem dX8_mayTurn_68 : decode cX8_mayTurn 68 = .ok (.iinc 2 1, 3) := dk_132 2 1 (dk_at dksX8_mayTurn_2 20 rfl rfl)
theorem dX8_mayTurn_71 : decode cX8_mayTurn 71 = .ok (.goto (-69), 3) := dk_167 255 187 (dk_at dksX8_mayTurn_3 0 rfl rfl)
theorem dX8_mayTurn_74 : decode cX8_mayTurn 74 = .ok (.iconst 0, 1) := dk_3 (dk_at dksX8_mayTurn_3 3 rfl rfl)
theorem dX8_mayTurn_75 : decode cX8_mayTurn 75 = .ok (.ireturn, 1) := dk_172 (dk_at dksX8_mayTurn_3 4 rfl rfl)
abbrev cX8_tells : ByteArray := prog_12_method_5_code
def yX8_tells : MethodName := ⟨RX8, "tells", "(III)Z"⟩
def dkwX8_tells_2 : List UInt8 := [182, 0, 66, 153, 0, 5, 4, 172, 132, 4, 1, 167, 255, 212, 3, 172]
abbrev dktX8_tells_2 : List UInt8 := dkwX8_tells_2 ++ []
def dkwX8_tells_1 : List UInt8 := [180, 0, 19, 27, 42, 180, 0, 15, 21, 4, 46, 79, 42, 27, 4, 96, 21, 4, 4, 96, 29, 4, 100]
abbrev dktX8_tells_1 : List UInt8 := dkwX8_tells_1 ++ dktX8_tells_2
def dkwX8_tells_0 : List UInt8 := [29, 154, 0, 9, 42, 27, 182, 0, 70, 172, 28, 54, 4, 21, 4, 42, 180, 0, 37, 162, 0, 41, 42]
abbrev dktX8_tells_0 : List UInt8 := dkwX8_tells_0 ++ dktX8_tells_1
theorem dksX8_tells_0 : cX8_tells.data.toList.drop 0 = dktX8_tells_0 := by decide +kernel
theorem dksX8_tells_1 : cX8_tells.data.toList.drop 23 = dktX8_tells_1 := dk_seg dksX8_tells_0 23 rfl rfl
theorem dksX8_tells_2 : cX8_tells.data.toList.drop 46 = dktX8_tells_2 := dk_seg dksX8_tells_1 23 rfl rfl
theorem dX8_tells_0 : decode cX8_tells 0 = .ok (.iload_n 3, 1) := dk_29 (dk_at dksX8_tells_0 0 rfl rfl)
theorem dX8_tells_1 : decode cX8_tells 1 = .ok (.ifCond .ne 9, 3) := dk_154 0 9 (dk_at dksX8_tells_0 1 rfl rfl)
theorem dX8_tells_4 : decode cX8_tells 4 = .ok (.aload_n 0, 1) := dk_42 (dk_at dksX8_tells_0 4 rfl rfl)
theorem dX8_tells_5 : decode cX8_tells 5 = .ok (.iload_n 1, 1) := dk_27 (dk_at dksX8_tells_0 5 rfl rfl)
theorem dX8_tells_6 : decode cX8_tells 6 = .ok (.invokevirtual 70, 3) := dk_182 0 70 (dk_at dksX8_tells_0 6 rfl rfl)
theorem dX8_tells_9 : decode cX8_tells 9 = .ok (.ireturn, 1) := dk_172 (dk_at dksX8_tells_0 9 rfl rfl)
theorem dX8_tells_10 : decode cX8_tells 10 = .ok (.iload_n 2, 1) := dk_28 (dk_at dksX8_tells_0 10 rfl rfl)
theorem dX8_tells_11 : decode cX8_tells 11 = .ok (.istore 4, 2) := dk_54 4 (dk_at dksX8_tells_0 11 rfl rfl)
theorem dX8_tells_13 : decode cX8_tells 13 = .ok (.iload 4, 2) := dk_21 4 (dk_at dksX8_tells_0 13 rfl rfl)
theorem dX8_tells_15 : decode cX8_tells 15 = .ok (.aload_n 0, 1) := dk_42 (dk_at dksX8_tells_0 15 rfl rfl)
theorem dX8_tells_16 : decode cX8_tells 16 = .ok (.getfield 37, 3) := dk_180 0 37 (dk_at dksX8_tells_0 16 rfl rfl)
theorem dX8_tells_19 : decode cX8_tells 19 = .ok (.if_icmp .ge 41, 3) := dk_162 0 41 (dk_at dksX8_tells_0 19 rfl rfl)
theorem dX8_tells_22 : decode cX8_tells 22 = .ok (.aload_n 0, 1) := dk_42 (dk_at dksX8_tells_0 22 rfl rfl)
theorem dX8_tells_23 : decode cX8_tells 23 = .ok (.getfield 19, 3) := dk_180 0 19 (dk_at dksX8_tells_1 0 rfl rfl)
theorem dX8_tells_26 : decode cX8_tells 26 = .ok (.iload_n 1, 1) := dk_27 (dk_at dksX8_tells_1 3 rfl rfl)
theorem dX8_tells_27 : decode cX8_tells 27 = .ok (.aload_n 0, 1) := dk_42 (dk_at dksX8_tells_1 4 rfl rfl)
theorem dX8_tells_28 : decode cX8_tells 28 = .ok (.getfield 15, 3) := dk_180 0 15 (dk_at dksX8_tells_1 5 rfl rfl)
theorem dX8_tells_31 : decode cX8_tells 31 = .ok (.iload 4, 2) := dk_21 4 (dk_at dksX8_tells_1 8 rfl rfl)
theorem dX8_tells_33 : decode cX8_tells 33 = .ok (.iaload, 1) := dk_46 (dk_at dksX8_tells_1 10 rfl rfl)
theorem dX8_tells_34 : decode cX8_tells 34 = .ok (.iastore, 1) := dk_79 (dk_at dksX8_tells_1 11 rfl rfl)
theorem dX8_tells_35 : decode cX8_tells 35 = .ok (.aload_n 0, 1) := dk_42 (dk_at dksX8_tells_1 12 rfl rfl)
theorem dX8_tells_36 : decode cX8_tells 36 = .ok (.iload_n 1, 1) := dk_27 (dk_at dksX8_tells_1 13 rfl rfl)
theorem dX8_tells_37 : decode cX8_tells 37 = .ok (.iconst 1, 1) := dk_4 (dk_at dksX8_tells_1 14 rfl rfl)
theorem dX8_tells_38 : decode cX8_tells 38 = .ok (.iadd, 1) := dk_96 (dk_at dksX8_tells_1 15 rfl rfl)
theorem dX8_tells_39 : decode cX8_tells 39 = .ok (.iload 4, 2) := dk_21 4 (dk_at dksX8_tells_1 16 rfl rfl)
theorem dX8_tells_41 : decode cX8_tells 41 = .ok (.iconst 1, 1) := dk_4 (dk_at dksX8_tells_1 18 rfl rfl)
theorem dX8_tells_42 : decode cX8_tells 42 = .ok (.iadd, 1) := dk_96 (dk_at dksX8_tells_1 19 rfl rfl)
theorem dX8_tells_43 : decode cX8_tells 43 = .ok (.iload_n 3, 1) := dk_29 (dk_at dksX8_tells_1 20 rfl rfl)
theorem dX8_tells_44 : decode cX8_tells 44 = .ok (.iconst 1, 1) := dk_4 (dk_at dksX8_tells_1 21 rfl rfl)
theorem dX8_tells_45 : decode cX8_tells 45 = .ok (.isub, 1) := dk_100 (dk_at dksX8_tells_1 22 rfl rfl)
theorem dX8_tells_46 : decode cX8_tells 46 = .ok (.invokevirtual 66, 3) := dk_182 0 66 (dk_at dksX8_tells_2 0 rfl rfl)
theorem dX8_tells_49 : decode cX8_tells 49 = .ok (.ifCond .eq 5, 3) := dk_153 0 5 (dk_at dksX8_tells_2 3 rfl rfl)
theorem dX8_tells_52 : decode cX8_tells 52 = .ok (.iconst 1, 1) := dk_4 (dk_at dksX8_tells_2 6 rfl rfl)
theorem dX8_tells_53 : decode cX8_tells 53 = .ok (.ireturn, 1) := dk_172 (dk_at dksX8_tells_2 7 rfl rfl)
theorem dX8_tells_54 : decode cX8_tells 54 = .ok (.iinc 4 1, 3) := dk_132 4 1 (dk_at dksX8_tells_2 8 rfl rfl)
theorem dX8_tells_57 : decode cX8_tells 57 = .ok (.goto (-44), 3) := dk_167 255 212 (dk_at dksX8_tells_2 11 rfl rfl)
theorem dX8_tells_60 : decode cX8_tells 60 = .ok (.iconst 0, 1) := dk_3 (dk_at dksX8_tells_2 14 rfl rfl)
theorem dX8_tells_61 : decode cX8_tells 61 = .ok (.ireturn, 1) := dk_172 (dk_at dksX8_tells_2 15 rfl rfl)
abbrev cX8_partsAll : ByteArray := prog_12_method_6_code
def yX8_partsAll : MethodName := ⟨RX8, "partsAll", "(I)Z"⟩
def dkwX8_partsAll_4 : List UInt8 := [172]
abbrev dktX8_partsAll_4 : List UInt8 := dkwX8_partsAll_4 ++ []
def dkwX8_partsAll_3 : List UInt8 := [27, 28, 29, 182, 0, 75, 154, 0, 5, 3, 172, 132, 3, 1, 167, 255, 207, 132, 2, 1, 167, 255, 166, 4]
abbrev dktX8_partsAll_3 : List UInt8 := dkwX8_partsAll_3 ++ dktX8_partsAll_4
def dkwX8_partsAll_2 : List UInt8 := [162, 0, 41, 42, 180, 0, 34, 42, 180, 0, 26, 20, 0, 73, 131, 127, 29, 184, 0, 54, 153, 0, 15, 42]
abbrev dktX8_partsAll_2 : List UInt8 := dkwX8_partsAll_2 ++ dktX8_partsAll_3
def dkwX8_partsAll_1 : List UInt8 := [127, 28, 184, 0, 54, 154, 0, 6, 167, 0, 57, 3, 62, 29, 42, 180, 0, 3, 180, 0, 44, 182, 0, 48]
abbrev dktX8_partsAll_1 : List UInt8 := dkwX8_partsAll_1 ++ dktX8_partsAll_2
def dkwX8_partsAll_0 : List UInt8 := [3, 61, 28, 42, 180, 0, 3, 180, 0, 44, 182, 0, 48, 162, 0, 82, 42, 180, 0, 34, 42, 180, 0, 26]
abbrev dktX8_partsAll_0 : List UInt8 := dkwX8_partsAll_0 ++ dktX8_partsAll_1
theorem dksX8_partsAll_0 : cX8_partsAll.data.toList.drop 0 = dktX8_partsAll_0 := by decide +kernel
theorem dksX8_partsAll_1 : cX8_partsAll.data.toList.drop 24 = dktX8_partsAll_1 := dk_seg dksX8_partsAll_0 24 rfl rfl
theorem dksX8_partsAll_2 : cX8_partsAll.data.toList.drop 48 = dktX8_partsAll_2 := dk_seg dksX8_partsAll_1 24 rfl rfl
theorem dksX8_partsAll_3 : cX8_partsAll.data.toList.drop 72 = dktX8_partsAll_3 := dk_seg dksX8_partsAll_2 24 rfl rfl
theorem dksX8_partsAll_4 : cX8_partsAll.data.toList.drop 96 = dktX8_partsAll_4 := dk_seg dksX8_partsAll_3 24 rfl rfl
theorem dX8_partsAll_0 : decode cX8_partsAll 0 = .ok (.iconst 0, 1) := dk_3 (dk_at dksX8_partsAll_0 0 rfl rfl)
theorem dX8_partsAll_1 : decode cX8_partsAll 1 = .ok (.istore_n 2, 1) := dk_61 (dk_at dksX8_partsAll_0 1 rfl rfl)
theorem dX8_partsAll_2 : decode cX8_partsAll 2 = .ok (.iload_n 2, 1) := dk_28 (dk_at dksX8_partsAll_0 2 rfl rfl)
theorem dX8_partsAll_3 : decode cX8_partsAll 3 = .ok (.aload_n 0, 1) := dk_42 (dk_at dksX8_partsAll_0 3 rfl rfl)
theorem dX8_partsAll_4 : decode cX8_partsAll 4 = .ok (.getfield 3, 3) := dk_180 0 3 (dk_at dksX8_partsAll_0 4 rfl rfl)
theorem dX8_partsAll_7 : decode cX8_partsAll 7 = .ok (.getfield 44, 3) := dk_180 0 44 (dk_at dksX8_partsAll_0 7 rfl rfl)
theorem dX8_partsAll_10 : decode cX8_partsAll 10 = .ok (.invokevirtual 48, 3) := dk_182 0 48 (dk_at dksX8_partsAll_0 10 rfl rfl)
theorem dX8_partsAll_13 : decode cX8_partsAll 13 = .ok (.if_icmp .ge 82, 3) := dk_162 0 82 (dk_at dksX8_partsAll_0 13 rfl rfl)
theorem dX8_partsAll_16 : decode cX8_partsAll 16 = .ok (.aload_n 0, 1) := dk_42 (dk_at dksX8_partsAll_0 16 rfl rfl)
theorem dX8_partsAll_17 : decode cX8_partsAll 17 = .ok (.getfield 34, 3) := dk_180 0 34 (dk_at dksX8_partsAll_0 17 rfl rfl)
theorem dX8_partsAll_20 : decode cX8_partsAll 20 = .ok (.aload_n 0, 1) := dk_42 (dk_at dksX8_partsAll_0 20 rfl rfl)
theorem dX8_partsAll_21 : decode cX8_partsAll 21 = .ok (.getfield 26, 3) := dk_180 0 26 (dk_at dksX8_partsAll_0 21 rfl rfl)
theorem dX8_partsAll_24 : decode cX8_partsAll 24 = .ok (.land, 1) := dk_127 (dk_at dksX8_partsAll_1 0 rfl rfl)
theorem dX8_partsAll_25 : decode cX8_partsAll 25 = .ok (.iload_n 2, 1) := dk_28 (dk_at dksX8_partsAll_1 1 rfl rfl)
theorem dX8_partsAll_26 : decode cX8_partsAll 26 = .ok (.invokestatic 54, 3) := dk_184 0 54 (dk_at dksX8_partsAll_1 2 rfl rfl)
theorem dX8_partsAll_29 : decode cX8_partsAll 29 = .ok (.ifCond .ne 6, 3) := dk_154 0 6 (dk_at dksX8_partsAll_1 5 rfl rfl)
theorem dX8_partsAll_32 : decode cX8_partsAll 32 = .ok (.goto 57, 3) := dk_167 0 57 (dk_at dksX8_partsAll_1 8 rfl rfl)
theorem dX8_partsAll_35 : decode cX8_partsAll 35 = .ok (.iconst 0, 1) := dk_3 (dk_at dksX8_partsAll_1 11 rfl rfl)
theorem dX8_partsAll_36 : decode cX8_partsAll 36 = .ok (.istore_n 3, 1) := dk_62 (dk_at dksX8_partsAll_1 12 rfl rfl)
theorem dX8_partsAll_37 : decode cX8_partsAll 37 = .ok (.iload_n 3, 1) := dk_29 (dk_at dksX8_partsAll_1 13 rfl rfl)
theorem dX8_partsAll_38 : decode cX8_partsAll 38 = .ok (.aload_n 0, 1) := dk_42 (dk_at dksX8_partsAll_1 14 rfl rfl)
theorem dX8_partsAll_39 : decode cX8_partsAll 39 = .ok (.getfield 3, 3) := dk_180 0 3 (dk_at dksX8_partsAll_1 15 rfl rfl)
theorem dX8_partsAll_42 : decode cX8_partsAll 42 = .ok (.getfield 44, 3) := dk_180 0 44 (dk_at dksX8_partsAll_1 18 rfl rfl)
theorem dX8_partsAll_45 : decode cX8_partsAll 45 = .ok (.invokevirtual 48, 3) := dk_182 0 48 (dk_at dksX8_partsAll_1 21 rfl rfl)
theorem dX8_partsAll_48 : decode cX8_partsAll 48 = .ok (.if_icmp .ge 41, 3) := dk_162 0 41 (dk_at dksX8_partsAll_2 0 rfl rfl)
theorem dX8_partsAll_51 : decode cX8_partsAll 51 = .ok (.aload_n 0, 1) := dk_42 (dk_at dksX8_partsAll_2 3 rfl rfl)
theorem dX8_partsAll_52 : decode cX8_partsAll 52 = .ok (.getfield 34, 3) := dk_180 0 34 (dk_at dksX8_partsAll_2 4 rfl rfl)
theorem dX8_partsAll_55 : decode cX8_partsAll 55 = .ok (.aload_n 0, 1) := dk_42 (dk_at dksX8_partsAll_2 7 rfl rfl)
theorem dX8_partsAll_56 : decode cX8_partsAll 56 = .ok (.getfield 26, 3) := dk_180 0 26 (dk_at dksX8_partsAll_2 8 rfl rfl)
theorem dX8_partsAll_59 : decode cX8_partsAll 59 = .ok (.ldc2_w 73, 3) := dk_20 0 73 (dk_at dksX8_partsAll_2 11 rfl rfl)
theorem dX8_partsAll_62 : decode cX8_partsAll 62 = .ok (.lxor, 1) := dk_131 (dk_at dksX8_partsAll_2 14 rfl rfl)
theorem dX8_partsAll_63 : decode cX8_partsAll 63 = .ok (.land, 1) := dk_127 (dk_at dksX8_partsAll_2 15 rfl rfl)
theorem dX8_partsAll_64 : decode cX8_partsAll 64 = .ok (.iload_n 3, 1) := dk_29 (dk_at dksX8_partsAll_2 16 rfl rfl)
theorem dX8_partsAll_65 : decode cX8_partsAll 65 = .ok (.invokestatic 54, 3) := dk_184 0 54 (dk_at dksX8_partsAll_2 17 rfl rfl)
theorem dX8_partsAll_68 : decode cX8_partsAll 68 = .ok (.ifCond .eq 15, 3) := dk_153 0 15 (dk_at dksX8_partsAll_2 20 rfl rfl)
theorem dX8_partsAll_71 : decode cX8_partsAll 71 = .ok (.aload_n 0, 1) := dk_42 (dk_at dksX8_partsAll_2 23 rfl rfl)
theorem dX8_partsAll_72 : decode cX8_partsAll 72 = .ok (.iload_n 1, 1) := dk_27 (dk_at dksX8_partsAll_3 0 rfl rfl)
theorem dX8_partsAll_73 : decode cX8_partsAll 73 = .ok (.iload_n 2, 1) := dk_28 (dk_at dksX8_partsAll_3 1 rfl rfl)
theorem dX8_partsAll_74 : decode cX8_partsAll 74 = .ok (.iload_n 3, 1) := dk_29 (dk_at dksX8_partsAll_3 2 rfl rfl)
theorem dX8_partsAll_75 : decode cX8_partsAll 75 = .ok (.invokevirtual 75, 3) := dk_182 0 75 (dk_at dksX8_partsAll_3 3 rfl rfl)
theorem dX8_partsAll_78 : decode cX8_partsAll 78 = .ok (.ifCond .ne 5, 3) := dk_154 0 5 (dk_at dksX8_partsAll_3 6 rfl rfl)
theorem dX8_partsAll_81 : decode cX8_partsAll 81 = .ok (.iconst 0, 1) := dk_3 (dk_at dksX8_partsAll_3 9 rfl rfl)
theorem dX8_partsAll_82 : decode cX8_partsAll 82 = .ok (.ireturn, 1) := dk_172 (dk_at dksX8_partsAll_3 10 rfl rfl)
theorem dX8_partsAll_83 : decode cX8_partsAll 83 = .ok (.iinc 3 1, 3) := dk_132 3 1 (dk_at dksX8_partsAll_3 11 rfl rfl)
theorem dX8_partsAll_86 : decode cX8_partsAll 86 = .ok (.goto (-49), 3) := dk_167 255 207 (dk_at dksX8_partsAll_3 14 rfl rfl)
theorem dX8_partsAll_89 : decode cX8_partsAll 89 = .ok (.iinc 2 1, 3) := dk_132 2 1 (dk_at dksX8_partsAll_3 17 rfl rfl)
theorem dX8_partsAll_92 : decode cX8_partsAll 92 = .ok (.goto (-90), 3) := dk_167 255 166 (dk_at dksX8_partsAll_3 20 rfl rfl)
theorem dX8_partsAll_95 : decode cX8_partsAll 95 = .ok (.iconst 1, 1) := dk_4 (dk_at dksX8_partsAll_3 23 rfl rfl)
theorem dX8_partsAll_96 : decode cX8_partsAll 96 = .ok (.ireturn, 1) := dk_172 (dk_at dksX8_partsAll_4 0 rfl rfl)
abbrev cX8_parts : ByteArray := prog_12_method_7_code
def yX8_parts : MethodName := ⟨RX8, "parts", "(III)Z"⟩
def dkwX8_parts_2 : List UInt8 := [159, 0, 5, 4, 172, 132, 4, 1, 167, 255, 204, 3, 172]
abbrev dktX8_parts_2 : List UInt8 := dkwX8_parts_2 ++ []
def dkwX8_parts_1 : List UInt8 := [28, 182, 0, 78, 42, 180, 0, 3, 42, 180, 0, 22, 42, 180, 0, 19, 21, 4, 46, 29, 182, 0, 78]
abbrev dktX8_parts_1 : List UInt8 := dkwX8_parts_1 ++ dktX8_parts_2
def dkwX8_parts_0 : List UInt8 := [3, 54, 4, 21, 4, 27, 162, 0, 52, 42, 180, 0, 3, 42, 180, 0, 22, 42, 180, 0, 19, 21, 4, 46]
abbrev dktX8_parts_0 : List UInt8 := dkwX8_parts_0 ++ dktX8_parts_1
theorem dksX8_parts_0 : cX8_parts.data.toList.drop 0 = dktX8_parts_0 := by decide +kernel
theorem dksX8_parts_1 : cX8_parts.data.toList.drop 24 = dktX8_parts_1 := dk_seg dksX8_parts_0 24 rfl rfl
theorem dksX8_parts_2 : cX8_parts.data.toList.drop 47 = dktX8_parts_2 := dk_seg dksX8_parts_1 23 rfl rfl
theorem dX8_parts_0 : decode cX8_parts 0 = .ok (.iconst 0, 1) := dk_3 (dk_at dksX8_parts_0 0 rfl rfl)
theorem dX8_parts_1 : decode cX8_parts 1 = .ok (.istore 4, 2) := dk_54 4 (dk_at dksX8_parts_0 1 rfl rfl)
theorem dX8_parts_3 : decode cX8_parts 3 = .ok (.iload 4, 2) := dk_21 4 (dk_at dksX8_parts_0 3 rfl rfl)
theorem dX8_parts_5 : decode cX8_parts 5 = .ok (.iload_n 1, 1) := dk_27 (dk_at dksX8_parts_0 5 rfl rfl)
theorem dX8_parts_6 : decode cX8_parts 6 = .ok (.if_icmp .ge 52, 3) := dk_162 0 52 (dk_at dksX8_parts_0 6 rfl rfl)
theorem dX8_parts_9 : decode cX8_parts 9 = .ok (.aload_n 0, 1) := dk_42 (dk_at dksX8_parts_0 9 rfl rfl)
theorem dX8_parts_10 : decode cX8_parts 10 = .ok (.getfield 3, 3) := dk_180 0 3 (dk_at dksX8_parts_0 10 rfl rfl)
theorem dX8_parts_13 : decode cX8_parts 13 = .ok (.aload_n 0, 1) := dk_42 (dk_at dksX8_parts_0 13 rfl rfl)
theorem dX8_parts_14 : decode cX8_parts 14 = .ok (.getfield 22, 3) := dk_180 0 22 (dk_at dksX8_parts_0 14 rfl rfl)
theorem dX8_parts_17 : decode cX8_parts 17 = .ok (.aload_n 0, 1) := dk_42 (dk_at dksX8_parts_0 17 rfl rfl)
theorem dX8_parts_18 : decode cX8_parts 18 = .ok (.getfield 19, 3) := dk_180 0 19 (dk_at dksX8_parts_0 18 rfl rfl)
theorem dX8_parts_21 : decode cX8_parts 21 = .ok (.iload 4, 2) := dk_21 4 (dk_at dksX8_parts_0 21 rfl rfl)
theorem dX8_parts_23 : decode cX8_parts 23 = .ok (.iaload, 1) := dk_46 (dk_at dksX8_parts_0 23 rfl rfl)
theorem dX8_parts_24 : decode cX8_parts 24 = .ok (.iload_n 2, 1) := dk_28 (dk_at dksX8_parts_1 0 rfl rfl)
theorem dX8_parts_25 : decode cX8_parts 25 = .ok (.invokevirtual 78, 3) := dk_182 0 78 (dk_at dksX8_parts_1 1 rfl rfl)
theorem dX8_parts_28 : decode cX8_parts 28 = .ok (.aload_n 0, 1) := dk_42 (dk_at dksX8_parts_1 4 rfl rfl)
theorem dX8_parts_29 : decode cX8_parts 29 = .ok (.getfield 3, 3) := dk_180 0 3 (dk_at dksX8_parts_1 5 rfl rfl)
theorem dX8_parts_32 : decode cX8_parts 32 = .ok (.aload_n 0, 1) := dk_42 (dk_at dksX8_parts_1 8 rfl rfl)
theorem dX8_parts_33 : decode cX8_parts 33 = .ok (.getfield 22, 3) := dk_180 0 22 (dk_at dksX8_parts_1 9 rfl rfl)
theorem dX8_parts_36 : decode cX8_parts 36 = .ok (.aload_n 0, 1) := dk_42 (dk_at dksX8_parts_1 12 rfl rfl)
theorem dX8_parts_37 : decode cX8_parts 37 = .ok (.getfield 19, 3) := dk_180 0 19 (dk_at dksX8_parts_1 13 rfl rfl)
theorem dX8_parts_40 : decode cX8_parts 40 = .ok (.iload 4, 2) := dk_21 4 (dk_at dksX8_parts_1 16 rfl rfl)
theorem dX8_parts_42 : decode cX8_parts 42 = .ok (.iaload, 1) := dk_46 (dk_at dksX8_parts_1 18 rfl rfl)
theorem dX8_parts_43 : decode cX8_parts 43 = .ok (.iload_n 3, 1) := dk_29 (dk_at dksX8_parts_1 19 rfl rfl)
theorem dX8_parts_44 : decode cX8_parts 44 = .ok (.invokevirtual 78, 3) := dk_182 0 78 (dk_at dksX8_parts_1 20 rfl rfl)
theorem dX8_parts_47 : decode cX8_parts 47 = .ok (.if_icmp .eq 5, 3) := dk_159 0 5 (dk_at dksX8_parts_2 0 rfl rfl)
theorem dX8_parts_50 : decode cX8_parts 50 = .ok (.iconst 1, 1) := dk_4 (dk_at dksX8_parts_2 3 rfl rfl)
theorem dX8_parts_51 : decode cX8_parts 51 = .ok (.ireturn, 1) := dk_172 (dk_at dksX8_parts_2 4 rfl rfl)
theorem dX8_parts_52 : decode cX8_parts 52 = .ok (.iinc 4 1, 3) := dk_132 4 1 (dk_at dksX8_parts_2 5 rfl rfl)
theorem dX8_parts_55 : decode cX8_parts 55 = .ok (.goto (-52), 3) := dk_167 255 204 (dk_at dksX8_parts_2 8 rfl rfl)
theorem dX8_parts_58 : decode cX8_parts 58 = .ok (.iconst 0, 1) := dk_3 (dk_at dksX8_parts_2 11 rfl rfl)
theorem dX8_parts_59 : decode cX8_parts 59 = .ok (.ireturn, 1) := dk_172 (dk_at dksX8_parts_2 12 rfl rfl)
theorem q129 : (Jvm.Cond.initialized "LiarsCock$Lookout") ∈ lw_all := lw_g (lw_at lw_m1 11 rfl) rfl
theorem q385 : (Jvm.Cond.instantiable "LiarsCock$Lookout" (7 : Nat)) ∈ lw_all := lw_g (lw_at lw_m2 27 rfl) rfl
theorem q387 : (Jvm.Cond.instanceMethod ({ cls := "LiarsCock$Lookout", name := "<init>", desc := "(LLiarsCock;)V" } : Jvm.MethodName)) ∈ lw_all := lw_g (lw_at lw_m2 29 rfl) rfl
theorem q388 : (Jvm.Cond.code ({ cls := "LiarsCock$Lookout", name := "<init>", desc := "(LLiarsCock;)V" } : Jvm.MethodName) prog_12_method_1_code (2 : Nat) (Option.none : Option Jvm.ClassFile.FieldType)) ∈ lw_all := lw_g (lw_at lw_m2 30 rfl) rfl
theorem q389 : (Jvm.Cond.methodLink "LiarsCock$Lookout" (9 : Nat) ({ cls := "java/lang/Object", name := "<init>", desc := "()V" } : Jvm.MethodName)) ∈ lw_all := lw_g (lw_at lw_m2 31 rfl) rfl
theorem q390 : (Jvm.Cond.fieldLink "LiarsCock$Lookout" (15 : Nat) "LiarsCock$Lookout" "minutes" "[I") ∈ lw_all := lw_g (lw_at lw_m2 32 rfl) rfl
theorem q391 : (Jvm.Cond.fieldLink "LiarsCock$Lookout" (37 : Nat) "LiarsCock$Lookout" "many" "I") ∈ lw_all := lw_g (lw_at lw_m2 33 rfl) rfl
theorem q392 : (Jvm.Cond.fieldLink "LiarsCock$Lookout" (19 : Nat) "LiarsCock$Lookout" "at" "[I") ∈ lw_all := lw_g (lw_at lw_m2 34 rfl) rfl
theorem q394 : (Jvm.Cond.fieldLink "LiarsCock$Lookout" (34 : Nat) "LiarsCock$Lookout" "can" "J") ∈ lw_all := lw_g (lw_at lw_m2 36 rfl) rfl
theorem q395 : (Jvm.Cond.fieldLink "LiarsCock$Lookout" (26 : Nat) "LiarsCock$Lookout" "so" "J") ∈ lw_all := lw_g (lw_at lw_m2 37 rfl) rfl
theorem q396 : (Jvm.Cond.fieldLink "LiarsCock$Lookout" (22 : Nat) "LiarsCock$Lookout" "cock" "I") ∈ lw_all := lw_g (lw_at lw_m2 38 rfl) rfl
theorem q397 : (Jvm.Cond.fieldLink "LiarsCock$Lookout" (3 : Nat) "LiarsCock$Lookout" "this$0" "LLiarsCock;") ∈ lw_all := lw_g (lw_at lw_m2 39 rfl) rfl
theorem q398 : (Jvm.Cond.laysFinal "LiarsCock$Lookout" "LiarsCock$Lookout" "minutes" "[I") ∈ lw_all := lw_g (lw_at lw_m2 40 rfl) rfl
theorem q399 : (Jvm.Cond.soleField "LiarsCock$Lookout" "minutes") ∈ lw_all := lw_g (lw_at lw_m2 41 rfl) rfl
theorem q400 : (Jvm.Cond.lays "LiarsCock$Lookout" "LiarsCock$Lookout" "many" "I") ∈ lw_all := lw_g (lw_at lw_m2 42 rfl) rfl
theorem q401 : (Jvm.Cond.soleField "LiarsCock$Lookout" "many") ∈ lw_all := lw_g (lw_at lw_m2 43 rfl) rfl
theorem q402 : (Jvm.Cond.laysFinal "LiarsCock$Lookout" "LiarsCock$Lookout" "at" "[I") ∈ lw_all := lw_g (lw_at lw_m2 44 rfl) rfl
theorem q403 : (Jvm.Cond.soleField "LiarsCock$Lookout" "at") ∈ lw_all := lw_g (lw_at lw_m2 45 rfl) rfl
theorem q404 : (Jvm.Cond.lays "LiarsCock$Lookout" "LiarsCock$Lookout" "can" "J") ∈ lw_all := lw_g (lw_at lw_m2 46 rfl) rfl
theorem q405 : (Jvm.Cond.soleField "LiarsCock$Lookout" "can") ∈ lw_all := lw_g (lw_at lw_m2 47 rfl) rfl
theorem q406 : (Jvm.Cond.lays "LiarsCock$Lookout" "LiarsCock$Lookout" "so" "J") ∈ lw_all := lw_g (lw_at lw_m2 48 rfl) rfl
theorem q407 : (Jvm.Cond.soleField "LiarsCock$Lookout" "so") ∈ lw_all := lw_g (lw_at lw_m2 49 rfl) rfl
theorem q408 : (Jvm.Cond.lays "LiarsCock$Lookout" "LiarsCock$Lookout" "cock" "I") ∈ lw_all := lw_g (lw_at lw_m2 50 rfl) rfl
theorem q409 : (Jvm.Cond.soleField "LiarsCock$Lookout" "cock") ∈ lw_all := lw_g (lw_at lw_m2 51 rfl) rfl
theorem q410 : (Jvm.Cond.laysFinal "LiarsCock$Lookout" "LiarsCock$Lookout" "this$0" "LLiarsCock;") ∈ lw_all := lw_g (lw_at lw_m2 52 rfl) rfl
theorem q411 : (Jvm.Cond.soleField "LiarsCock$Lookout" "this$0") ∈ lw_all := lw_g (lw_at lw_m2 53 rfl) rfl
theorem q412 : (Jvm.Cond.superclass "LiarsCock$Lookout" "java/lang/Object") ∈ lw_all := lw_g (lw_at lw_m2 54 rfl) rfl
theorem q420 : (Jvm.Cond.fieldLinkNest "LiarsCock$Lookout" (44 : Nat) "LiarsCock" "parish" "LLiarsCock$Parish;" "LiarsCock") ∈ lw_tbl := lw_at lw_m2 62 rfl
theorem q786 : (Jvm.Cond.selects "LiarsCock$Lookout" ({ cls := "java/lang/Object", name := "getClass", desc := "()Ljava/lang/Class;" } : Jvm.MethodName) ({ cls := "java/lang/Object", name := "getClass", desc := "()Ljava/lang/Class;" } : Jvm.MethodName)) ∈ lw_all := lw_g (lw_at lw_m3 188 rfl) rfl
theorem q1484 : (Jvm.Cond.instanceMethod ({ cls := "LiarsCock$Lookout", name := "fewest", desc := "(IJ)I" } : Jvm.MethodName)) ∈ lw_all := lw_g (lw_at lw_m6 166 rfl) rfl
theorem q1485 : (Jvm.Cond.selects "LiarsCock$Lookout" ({ cls := "LiarsCock$Lookout", name := "fewest", desc := "(IJ)I" } : Jvm.MethodName) ({ cls := "LiarsCock$Lookout", name := "fewest", desc := "(IJ)I" } : Jvm.MethodName)) ∈ lw_all := lw_g (lw_at lw_m6 167 rfl) rfl
theorem q1486 : (Jvm.Cond.code ({ cls := "LiarsCock$Lookout", name := "fewest", desc := "(IJ)I" } : Jvm.MethodName) prog_12_method_4_code (5 : Nat) (Option.some Jvm.ClassFile.FieldType.int)) ∈ lw_all := lw_g (lw_at lw_m6 168 rfl) rfl
theorem q1487 : (Jvm.Cond.methodLink "LiarsCock$Lookout" (62 : Nat) ({ cls := "LiarsCock$Lookout", name := "find", desc := "(IJ)V" } : Jvm.MethodName)) ∈ lw_all := lw_g (lw_at lw_m6 169 rfl) rfl
theorem q1488 : (Jvm.Cond.privateMethod ({ cls := "LiarsCock$Lookout", name := "find", desc := "(IJ)V" } : Jvm.MethodName)) ∈ lw_tbl := lw_at lw_m6 170 rfl
theorem q1489 : (Jvm.Cond.instanceMethod ({ cls := "LiarsCock$Lookout", name := "find", desc := "(IJ)V" } : Jvm.MethodName)) ∈ lw_all := lw_g (lw_at lw_m6 171 rfl) rfl
theorem q1490 : (Jvm.Cond.code ({ cls := "LiarsCock$Lookout", name := "find", desc := "(IJ)V" } : Jvm.MethodName) prog_12_method_2_code (5 : Nat) (Option.none : Option Jvm.ClassFile.FieldType)) ∈ lw_all := lw_g (lw_at lw_m6 172 rfl) rfl
theorem q1491 : (Jvm.Cond.methodLinkNest "LiarsCock$Lookout" (30 : Nat) ({ cls := "LiarsCock", name := "canBe", desc := "()J" } : Jvm.MethodName) "LiarsCock") ∈ lw_tbl := lw_at lw_m6 173 rfl
theorem q1492 : (Jvm.Cond.methodLink "LiarsCock$Lookout" (40 : Nat) ({ cls := "LiarsCock$Lookout", name := "mayTurn", desc := "(I)Z" } : Jvm.MethodName)) ∈ lw_all := lw_g (lw_at lw_m6 174 rfl) rfl
theorem q1493 : (Jvm.Cond.privateMethod ({ cls := "LiarsCock$Lookout", name := "mayTurn", desc := "(I)Z" } : Jvm.MethodName)) ∈ lw_tbl := lw_at lw_m6 175 rfl
theorem q1494 : (Jvm.Cond.instanceMethod ({ cls := "LiarsCock$Lookout", name := "mayTurn", desc := "(I)Z" } : Jvm.MethodName)) ∈ lw_all := lw_g (lw_at lw_m6 176 rfl) rfl
theorem q1495 : (Jvm.Cond.code ({ cls := "LiarsCock$Lookout", name := "mayTurn", desc := "(I)Z" } : Jvm.MethodName) prog_12_method_3_code (3 : Nat) (Option.some Jvm.ClassFile.FieldType.boolean)) ∈ lw_all := lw_g (lw_at lw_m6 177 rfl) rfl
theorem q1496 : (Jvm.Cond.methodLink "LiarsCock$Lookout" (48 : Nat) ({ cls := "LiarsCock$Parish", name := "worlds", desc := "()I" } : Jvm.MethodName)) ∈ lw_all := lw_g (lw_at lw_m6 178 rfl) rfl
theorem q1497 : (Jvm.Cond.methodLinkNest "LiarsCock$Lookout" (54 : Nat) ({ cls := "LiarsCock", name := "has", desc := "(JI)Z" } : Jvm.MethodName) "LiarsCock") ∈ lw_tbl := lw_at lw_m6 179 rfl
theorem q1498 : (Jvm.Cond.methodLinkNest "LiarsCock$Lookout" (58 : Nat) ({ cls := "LiarsCock", name := "pointsAt", desc := "(III)I" } : Jvm.MethodName) "LiarsCock") ∈ lw_tbl := lw_at lw_m6 180 rfl
theorem q1499 : (Jvm.Cond.methodLink "LiarsCock$Lookout" (66 : Nat) ({ cls := "LiarsCock$Lookout", name := "tells", desc := "(III)Z" } : Jvm.MethodName)) ∈ lw_all := lw_g (lw_at lw_m6 181 rfl) rfl
theorem q1500 : (Jvm.Cond.privateMethod ({ cls := "LiarsCock$Lookout", name := "tells", desc := "(III)Z" } : Jvm.MethodName)) ∈ lw_tbl := lw_at lw_m6 182 rfl
theorem q1501 : (Jvm.Cond.instanceMethod ({ cls := "LiarsCock$Lookout", name := "tells", desc := "(III)Z" } : Jvm.MethodName)) ∈ lw_all := lw_g (lw_at lw_m6 183 rfl) rfl
theorem q1502 : (Jvm.Cond.code ({ cls := "LiarsCock$Lookout", name := "tells", desc := "(III)Z" } : Jvm.MethodName) prog_12_method_5_code (5 : Nat) (Option.some Jvm.ClassFile.FieldType.boolean)) ∈ lw_all := lw_g (lw_at lw_m6 184 rfl) rfl
theorem q1503 : (Jvm.Cond.methodLink "LiarsCock$Lookout" (70 : Nat) ({ cls := "LiarsCock$Lookout", name := "partsAll", desc := "(I)Z" } : Jvm.MethodName)) ∈ lw_all := lw_g (lw_at lw_m6 185 rfl) rfl
theorem q1504 : (Jvm.Cond.privateMethod ({ cls := "LiarsCock$Lookout", name := "partsAll", desc := "(I)Z" } : Jvm.MethodName)) ∈ lw_tbl := lw_at lw_m6 186 rfl
theorem q1505 : (Jvm.Cond.instanceMethod ({ cls := "LiarsCock$Lookout", name := "partsAll", desc := "(I)Z" } : Jvm.MethodName)) ∈ lw_all := lw_g (lw_at lw_m6 187 rfl) rfl
theorem q1506 : (Jvm.Cond.code ({ cls := "LiarsCock$Lookout", name := "partsAll", desc := "(I)Z" } : Jvm.MethodName) prog_12_method_6_code (4 : Nat) (Option.some Jvm.ClassFile.FieldType.boolean)) ∈ lw_all := lw_g (lw_at lw_m6 188 rfl) rfl
theorem q1507 : (Jvm.Cond.constantLong "LiarsCock$Lookout" (73 : Nat) (-1 : Int64)) ∈ lw_all := lw_g (lw_at lw_m6 189 rfl) rfl
theorem q1508 : (Jvm.Cond.methodLink "LiarsCock$Lookout" (75 : Nat) ({ cls := "LiarsCock$Lookout", name := "parts", desc := "(III)Z" } : Jvm.MethodName)) ∈ lw_all := lw_g (lw_at lw_m6 190 rfl) rfl
theorem q1509 : (Jvm.Cond.privateMethod ({ cls := "LiarsCock$Lookout", name := "parts", desc := "(III)Z" } : Jvm.MethodName)) ∈ lw_tbl := lw_at lw_m6 191 rfl
theorem q1510 : (Jvm.Cond.instanceMethod ({ cls := "LiarsCock$Lookout", name := "parts", desc := "(III)Z" } : Jvm.MethodName)) ∈ lw_all := lw_g (lw_at lw_m6 192 rfl) rfl
theorem q1511 : (Jvm.Cond.code ({ cls := "LiarsCock$Lookout", name := "parts", desc := "(III)Z" } : Jvm.MethodName) prog_12_method_7_code (5 : Nat) (Option.some Jvm.ClassFile.FieldType.boolean)) ∈ lw_all := lw_g (lw_at lw_m6 193 rfl) rfl
theorem q1512 : (Jvm.Cond.methodLinkNest "LiarsCock$Lookout" (78 : Nat) ({ cls := "LiarsCock", name := "bearingAt", desc := "(III)I" } : Jvm.MethodName) "LiarsCock") ∈ lw_tbl := lw_at lw_m6 194 rfl
theorem q2266 : (Jvm.Cond.castable "LiarsCock$Lookout" "java/lang/Object") ∈ lw_tbl := lw_at lw_m9 228 rfl
theorem in_X8 : ∀ w ∈ wsX80, w ∈ lw_all := lw_in wsX80 [398, 400, 402, 404, 406, 408, 410] (by decide +kernel) (by decide +kernel)

/-! LiarsCock$Wrong -/
set_option maxRecDepth 100000
def RX10 : String := "LiarsCock$Wrong"
def TX10 : u_T := fun k => match k with
  | 0 => ("java/lang/Throwable", "cause", "Ljava/lang/Throwable;", false)
  | 1 => ("java/lang/Throwable", "stackTrace", "[Ljava/lang/StackTraceElement;", false)
  | 2 => ("java/lang/Throwable", "suppressedExceptions", "Ljava/util/List;", false)
  | 3 => ("java/lang/Throwable", "detailMessage", "Ljava/lang/String;", false)
  | 4 => ("java/lang/Throwable", "backtrace", "Ljava/lang/Object;", false)
  | 5 => ("java/lang/Throwable", "depth", "I", false)
  | _ => ("LiarsCock$Wrong", "fault", "I", true)
def tyX10 : Nat → FieldType := fun k => match k with
  | 0 => .object "java/lang/Throwable"
  | 1 => .array (.object "java/lang/StackTraceElement")
  | 2 => .object "java/util/List"
  | 3 => .object "java/lang/String"
  | 4 => .object "java/lang/Object"
  | 5 => .int
  | _ => .int
abbrev wsX100 : List Cond := u_ws RX10 TX10 7
theorem nmX10 : ∀ a, a < 7 → ∀ b, b < 7 → a ≠ b → (TX10 a).2.1 ≠ (TX10 b).2.1 := by decide +kernel
theorem tyX10_ok : ∀ k, k < 7 → parseFieldDescriptor (TX10 k).2.2.1 = some (tyX10 k) := by decide +kernel
abbrev cX10_init : ByteArray := prog_26_method_1_code
def yX10_init : MethodName := ⟨RX10, "<init>", "(I)V"⟩
def dkwX10_init_0 : List UInt8 := [42, 183, 0, 1, 42, 27, 181, 0, 7, 177]
abbrev dktX10_init_0 : List UInt8 := dkwX10_init_0 ++ []
theorem dksX10_init_0 : cX10_init.data.toList.drop 0 = dktX10_init_0 := by decide +kernel
theorem dX10_init_0 : decode cX10_init 0 = .ok (.aload_n 0, 1) := dk_42 (dk_at dksX10_init_0 0 rfl rfl)
theorem dX10_init_1 : decode cX10_init 1 = .ok (.invokespecial 1, 3) := dk_183 0 1 (dk_at dksX10_init_0 1 rfl rfl)
theorem dX10_init_4 : decode cX10_init 4 = .ok (.aload_n 0, 1) := dk_42 (dk_at dksX10_init_0 4 rfl rfl)
theorem dX10_init_5 : decode cX10_init 5 = .ok (.iload_n 1, 1) := dk_27 (dk_at dksX10_init_0 5 rfl rfl)
theorem dX10_init_6 : decode cX10_init 6 = .ok (.putfield 7, 3) := dk_181 0 7 (dk_at dksX10_init_0 6 rfl rfl)
theorem dX10_init_9 : decode cX10_init 9 = .ok (.return_, 1) := dk_177 (dk_at dksX10_init_0 9 rfl rfl)
theorem q139 : (Jvm.Cond.initialized "LiarsCock$Wrong") ∈ lw_all := lw_g (lw_at lw_m1 21 rfl) rfl
theorem q630 : (Jvm.Cond.instantiable "LiarsCock$Wrong" (7 : Nat)) ∈ lw_all := lw_g (lw_at lw_m3 32 rfl) rfl
theorem q631 : (Jvm.Cond.castable "LiarsCock$Wrong" "LiarsCock$Wrong") ∈ lw_tbl := lw_at lw_m3 33 rfl
theorem q636 : (Jvm.Cond.selects "LiarsCock$Wrong" ({ cls := "java/lang/Throwable", name := "fillInStackTrace", desc := "(I)Ljava/lang/Throwable;" } : Jvm.MethodName) ({ cls := "java/lang/Throwable", name := "fillInStackTrace", desc := "(I)Ljava/lang/Throwable;" } : Jvm.MethodName)) ∈ lw_all := lw_g (lw_at lw_m3 38 rfl) rfl
theorem q637 : (Jvm.Cond.selects "LiarsCock$Wrong" ({ cls := "java/lang/Throwable", name := "fillInStackTrace", desc := "()Ljava/lang/Throwable;" } : Jvm.MethodName) ({ cls := "java/lang/Throwable", name := "fillInStackTrace", desc := "()Ljava/lang/Throwable;" } : Jvm.MethodName)) ∈ lw_all := lw_g (lw_at lw_m3 39 rfl) rfl
theorem q638 : (Jvm.Cond.lays "LiarsCock$Wrong" "java/lang/Throwable" "cause" "Ljava/lang/Throwable;") ∈ lw_all := lw_g (lw_at lw_m3 40 rfl) rfl
theorem q640 : (Jvm.Cond.lays "LiarsCock$Wrong" "java/lang/Throwable" "stackTrace" "[Ljava/lang/StackTraceElement;") ∈ lw_all := lw_g (lw_at lw_m3 42 rfl) rfl
theorem q642 : (Jvm.Cond.lays "LiarsCock$Wrong" "java/lang/Throwable" "suppressedExceptions" "Ljava/util/List;") ∈ lw_all := lw_g (lw_at lw_m3 44 rfl) rfl
theorem q644 : (Jvm.Cond.lays "LiarsCock$Wrong" "java/lang/Throwable" "detailMessage" "Ljava/lang/String;") ∈ lw_all := lw_g (lw_at lw_m3 46 rfl) rfl
theorem q646 : (Jvm.Cond.lays "LiarsCock$Wrong" "java/lang/Throwable" "backtrace" "Ljava/lang/Object;") ∈ lw_all := lw_g (lw_at lw_m3 48 rfl) rfl
theorem q668 : (Jvm.Cond.instanceMethod ({ cls := "LiarsCock$Wrong", name := "<init>", desc := "(I)V" } : Jvm.MethodName)) ∈ lw_all := lw_g (lw_at lw_m3 70 rfl) rfl
theorem q669 : (Jvm.Cond.code ({ cls := "LiarsCock$Wrong", name := "<init>", desc := "(I)V" } : Jvm.MethodName) prog_26_method_1_code (2 : Nat) (Option.none : Option Jvm.ClassFile.FieldType)) ∈ lw_all := lw_g (lw_at lw_m3 71 rfl) rfl
theorem q670 : (Jvm.Cond.methodLink "LiarsCock$Wrong" (1 : Nat) ({ cls := "java/lang/Exception", name := "<init>", desc := "()V" } : Jvm.MethodName)) ∈ lw_all := lw_g (lw_at lw_m3 72 rfl) rfl
theorem q674 : (Jvm.Cond.fieldLink "LiarsCock$Wrong" (7 : Nat) "LiarsCock$Wrong" "fault" "I") ∈ lw_all := lw_g (lw_at lw_m3 76 rfl) rfl
theorem q680 : (Jvm.Cond.laysFinal "LiarsCock$Wrong" "LiarsCock$Wrong" "fault" "I") ∈ lw_all := lw_g (lw_at lw_m3 82 rfl) rfl
theorem q681 : (Jvm.Cond.soleField "LiarsCock$Wrong" "fault") ∈ lw_all := lw_g (lw_at lw_m3 83 rfl) rfl
theorem q686 : (Jvm.Cond.lays "LiarsCock$Wrong" "java/lang/Throwable" "depth" "I") ∈ lw_all := lw_g (lw_at lw_m3 88 rfl) rfl
theorem q689 : (Jvm.Cond.superclass "LiarsCock$Wrong" "java/lang/Exception") ∈ lw_all := lw_g (lw_at lw_m3 91 rfl) rfl
theorem q800 : (Jvm.Cond.selects "LiarsCock$Wrong" ({ cls := "java/lang/Object", name := "getClass", desc := "()Ljava/lang/Class;" } : Jvm.MethodName) ({ cls := "java/lang/Object", name := "getClass", desc := "()Ljava/lang/Class;" } : Jvm.MethodName)) ∈ lw_all := lw_g (lw_at lw_m3 202 rfl) rfl
theorem q2268 : (Jvm.Cond.castable "LiarsCock$Wrong" "java/lang/Object") ∈ lw_tbl := lw_at lw_m9 230 rfl
theorem in_X10 : ∀ w ∈ wsX100, w ∈ lw_all := lw_in wsX100 [638, 640, 642, 644, 646, 686, 680] (by decide +kernel) (by decide +kernel)

/-! LiarsCock$Person -/
set_option maxRecDepth 100000
def RX11 : String := "LiarsCock$Person"
def TX11 : u_T := fun k => match k with
  | 0 => ("LiarsCock$Person", "place", "I", true)
  | _ => ("LiarsCock$Person", "knows", "I", false)
def tyX11 : Nat → FieldType := fun k => match k with
  | 0 => .int
  | _ => .int
abbrev wsX110 : List Cond := u_ws RX11 TX11 2
theorem nmX11 : ∀ a, a < 2 → ∀ b, b < 2 → a ≠ b → (TX11 a).2.1 ≠ (TX11 b).2.1 := by decide +kernel
theorem tyX11_ok : ∀ k, k < 2 → parseFieldDescriptor (TX11 k).2.2.1 = some (tyX11 k) := by decide +kernel
abbrev cX11_init : ByteArray := prog_18_method_1_code
def yX11_init : MethodName := ⟨RX11, "<init>", "(I)V"⟩
def dkwX11_init_0 : List UInt8 := [42, 183, 0, 1, 42, 27, 181, 0, 7, 177]
abbrev dktX11_init_0 : List UInt8 := dkwX11_init_0 ++ []
theorem dksX11_init_0 : cX11_init.data.toList.drop 0 = dktX11_init_0 := by decide +kernel
theorem dX11_init_0 : decode cX11_init 0 = .ok (.aload_n 0, 1) := dk_42 (dk_at dksX11_init_0 0 rfl rfl)
theorem dX11_init_1 : decode cX11_init 1 = .ok (.invokespecial 1, 3) := dk_183 0 1 (dk_at dksX11_init_0 1 rfl rfl)
theorem dX11_init_4 : decode cX11_init 4 = .ok (.aload_n 0, 1) := dk_42 (dk_at dksX11_init_0 4 rfl rfl)
theorem dX11_init_5 : decode cX11_init 5 = .ok (.iload_n 1, 1) := dk_27 (dk_at dksX11_init_0 5 rfl rfl)
theorem dX11_init_6 : decode cX11_init 6 = .ok (.putfield 7, 3) := dk_181 0 7 (dk_at dksX11_init_0 6 rfl rfl)
theorem dX11_init_9 : decode cX11_init 9 = .ok (.return_, 1) := dk_177 (dk_at dksX11_init_0 9 rfl rfl)
theorem q147 : (Jvm.Cond.initialized "LiarsCock$Person") ∈ lw_all := lw_g (lw_at lw_m1 29 rfl) rfl
theorem q792 : (Jvm.Cond.selects "LiarsCock$Person" ({ cls := "java/lang/Object", name := "getClass", desc := "()Ljava/lang/Class;" } : Jvm.MethodName) ({ cls := "java/lang/Object", name := "getClass", desc := "()Ljava/lang/Class;" } : Jvm.MethodName)) ∈ lw_all := lw_g (lw_at lw_m3 194 rfl) rfl
theorem q833 : (Jvm.Cond.instantiable "LiarsCock$Person" (2 : Nat)) ∈ lw_all := lw_g (lw_at lw_m3 235 rfl) rfl
theorem q840 : (Jvm.Cond.instanceMethod ({ cls := "LiarsCock$Person", name := "<init>", desc := "(I)V" } : Jvm.MethodName)) ∈ lw_all := lw_g (lw_at lw_m4 2 rfl) rfl
theorem q841 : (Jvm.Cond.code ({ cls := "LiarsCock$Person", name := "<init>", desc := "(I)V" } : Jvm.MethodName) prog_18_method_1_code (2 : Nat) (Option.none : Option Jvm.ClassFile.FieldType)) ∈ lw_all := lw_g (lw_at lw_m4 3 rfl) rfl
theorem q842 : (Jvm.Cond.methodLink "LiarsCock$Person" (1 : Nat) ({ cls := "java/lang/Object", name := "<init>", desc := "()V" } : Jvm.MethodName)) ∈ lw_all := lw_g (lw_at lw_m4 4 rfl) rfl
theorem q843 : (Jvm.Cond.fieldLink "LiarsCock$Person" (7 : Nat) "LiarsCock$Person" "place" "I") ∈ lw_all := lw_g (lw_at lw_m4 5 rfl) rfl
theorem q849 : (Jvm.Cond.laysFinal "LiarsCock$Person" "LiarsCock$Person" "place" "I") ∈ lw_all := lw_g (lw_at lw_m4 11 rfl) rfl
theorem q850 : (Jvm.Cond.soleField "LiarsCock$Person" "place") ∈ lw_all := lw_g (lw_at lw_m4 12 rfl) rfl
theorem q851 : (Jvm.Cond.lays "LiarsCock$Person" "LiarsCock$Person" "knows" "I") ∈ lw_all := lw_g (lw_at lw_m4 13 rfl) rfl
theorem q852 : (Jvm.Cond.soleField "LiarsCock$Person" "knows") ∈ lw_all := lw_g (lw_at lw_m4 14 rfl) rfl
theorem q853 : (Jvm.Cond.superclass "LiarsCock$Person" "java/lang/Object") ∈ lw_all := lw_g (lw_at lw_m4 15 rfl) rfl
theorem q2270 : (Jvm.Cond.castable "LiarsCock$Person" "java/lang/Object") ∈ lw_tbl := lw_at lw_m9 232 rfl
theorem in_X11 : ∀ w ∈ wsX110, w ∈ lw_all := lw_in wsX110 [849, 851] (by decide +kernel) (by decide +kernel)

/-! LiarsCock$Expression -/
set_option maxRecDepth 100000
def RX12 : String := "LiarsCock$Expression"
abbrev cX12_init : ByteArray := prog_6_method_1_code
def yX12_init : MethodName := ⟨RX12, "<init>", "()V"⟩
theorem dX12_init_0 : decode cX12_init 0 = .ok (.aload_n 0, 1) := by decide +kernel
theorem dX12_init_1 : decode cX12_init 1 = .ok (.invokespecial 1, 3) := by decide +kernel
theorem dX12_init_4 : decode cX12_init 4 = .ok (.return_, 1) := by decide +kernel
theorem q148 : (Jvm.Cond.initialized "LiarsCock$Expression") ∈ lw_all := lw_g (lw_at lw_m1 30 rfl) rfl
theorem q895 : (Jvm.Cond.instanceMethod ({ cls := "LiarsCock$Expression", name := "<init>", desc := "()V" } : Jvm.MethodName)) ∈ lw_all := lw_g (lw_at lw_m4 57 rfl) rfl
theorem q896 : (Jvm.Cond.code ({ cls := "LiarsCock$Expression", name := "<init>", desc := "()V" } : Jvm.MethodName) prog_6_method_1_code (1 : Nat) (Option.none : Option Jvm.ClassFile.FieldType)) ∈ lw_all := lw_g (lw_at lw_m4 58 rfl) rfl
theorem q897 : (Jvm.Cond.methodLink "LiarsCock$Expression" (1 : Nat) ({ cls := "java/lang/Object", name := "<init>", desc := "()V" } : Jvm.MethodName)) ∈ lw_all := lw_g (lw_at lw_m4 59 rfl) rfl
theorem q1031 : (Jvm.Cond.declares ({ cls := "LiarsCock$Expression", name := "of", desc := "(LLiarsCock$Facts;)I" } : Jvm.MethodName)) ∈ lw_tbl := lw_at lw_m4 193 rfl
theorem q1032 : (Jvm.Cond.sameMethod "LiarsCock$Expression" "LiarsCock$Expression" "of" "(LLiarsCock$Facts;)I") ∈ lw_all := lw_g (lw_at lw_m4 194 rfl) rfl

/-! LiarsCock$Fact -/
set_option maxRecDepth 100000
def RX13 : String := "LiarsCock$Fact"
def TX13 : u_T := fun k => match k with
  | _ => ("LiarsCock$Fact", "which", "I", true)
def tyX13 : Nat → FieldType := fun k => match k with
  | _ => .int
abbrev wsX130 : List Cond := u_ws RX13 TX13 1
theorem nmX13 : ∀ a, a < 1 → ∀ b, b < 1 → a ≠ b → (TX13 a).2.1 ≠ (TX13 b).2.1 := by decide +kernel
theorem tyX13_ok : ∀ k, k < 1 → parseFieldDescriptor (TX13 k).2.2.1 = some (tyX13 k) := by decide +kernel
abbrev cX13_init : ByteArray := prog_7_method_1_code
def yX13_init : MethodName := ⟨RX13, "<init>", "(I)V"⟩
def dkwX13_init_0 : List UInt8 := [42, 183, 0, 1, 42, 27, 181, 0, 7, 177]
abbrev dktX13_init_0 : List UInt8 := dkwX13_init_0 ++ []
theorem dksX13_init_0 : cX13_init.data.toList.drop 0 = dktX13_init_0 := by decide +kernel
theorem dX13_init_0 : decode cX13_init 0 = .ok (.aload_n 0, 1) := dk_42 (dk_at dksX13_init_0 0 rfl rfl)
theorem dX13_init_1 : decode cX13_init 1 = .ok (.invokespecial 1, 3) := dk_183 0 1 (dk_at dksX13_init_0 1 rfl rfl)
theorem dX13_init_4 : decode cX13_init 4 = .ok (.aload_n 0, 1) := dk_42 (dk_at dksX13_init_0 4 rfl rfl)
theorem dX13_init_5 : decode cX13_init 5 = .ok (.iload_n 1, 1) := dk_27 (dk_at dksX13_init_0 5 rfl rfl)
theorem dX13_init_6 : decode cX13_init 6 = .ok (.putfield 7, 3) := dk_181 0 7 (dk_at dksX13_init_0 6 rfl rfl)
theorem dX13_init_9 : decode cX13_init 9 = .ok (.return_, 1) := dk_177 (dk_at dksX13_init_0 9 rfl rfl)
abbrev cX13_of : ByteArray := prog_7_method_2_code
def yX13_of : MethodName := ⟨RX13, "of", "(LLiarsCock$Facts;)I"⟩
def dkwX13_of_0 : List UInt8 := [43, 180, 0, 13, 42, 180, 0, 7, 46, 172]
abbrev dktX13_of_0 : List UInt8 := dkwX13_of_0 ++ []
theorem dksX13_of_0 : cX13_of.data.toList.drop 0 = dktX13_of_0 := by decide +kernel
theorem dX13_of_0 : decode cX13_of 0 = .ok (.aload_n 1, 1) := dk_43 (dk_at dksX13_of_0 0 rfl rfl)
theorem dX13_of_1 : decode cX13_of 1 = .ok (.getfield 13, 3) := dk_180 0 13 (dk_at dksX13_of_0 1 rfl rfl)
theorem dX13_of_4 : decode cX13_of 4 = .ok (.aload_n 0, 1) := dk_42 (dk_at dksX13_of_0 4 rfl rfl)
theorem dX13_of_5 : decode cX13_of 5 = .ok (.getfield 7, 3) := dk_180 0 7 (dk_at dksX13_of_0 5 rfl rfl)
theorem dX13_of_8 : decode cX13_of 8 = .ok (.iaload, 1) := dk_46 (dk_at dksX13_of_0 8 rfl rfl)
theorem dX13_of_9 : decode cX13_of 9 = .ok (.ireturn, 1) := dk_172 (dk_at dksX13_of_0 9 rfl rfl)
theorem q149 : (Jvm.Cond.initialized "LiarsCock$Fact") ∈ lw_all := lw_g (lw_at lw_m1 31 rfl) rfl
theorem q274 : (Jvm.Cond.fieldLink "LiarsCock$Fact" (13 : Nat) "LiarsCock$Facts" "of" "[I") ∈ lw_all := lw_g (lw_at lw_m1 156 rfl) rfl
theorem q782 : (Jvm.Cond.selects "LiarsCock$Fact" ({ cls := "java/lang/Object", name := "getClass", desc := "()Ljava/lang/Class;" } : Jvm.MethodName) ({ cls := "java/lang/Object", name := "getClass", desc := "()Ljava/lang/Class;" } : Jvm.MethodName)) ∈ lw_all := lw_g (lw_at lw_m3 184 rfl) rfl
theorem q890 : (Jvm.Cond.instantiable "LiarsCock$Fact" (1 : Nat)) ∈ lw_all := lw_g (lw_at lw_m4 52 rfl) rfl
theorem q892 : (Jvm.Cond.instanceMethod ({ cls := "LiarsCock$Fact", name := "<init>", desc := "(I)V" } : Jvm.MethodName)) ∈ lw_all := lw_g (lw_at lw_m4 54 rfl) rfl
theorem q893 : (Jvm.Cond.code ({ cls := "LiarsCock$Fact", name := "<init>", desc := "(I)V" } : Jvm.MethodName) prog_7_method_1_code (2 : Nat) (Option.none : Option Jvm.ClassFile.FieldType)) ∈ lw_all := lw_g (lw_at lw_m4 55 rfl) rfl
theorem q894 : (Jvm.Cond.methodLinkNest "LiarsCock$Fact" (1 : Nat) ({ cls := "LiarsCock$Expression", name := "<init>", desc := "()V" } : Jvm.MethodName) "LiarsCock") ∈ lw_tbl := lw_at lw_m4 56 rfl
theorem q898 : (Jvm.Cond.fieldLink "LiarsCock$Fact" (7 : Nat) "LiarsCock$Fact" "which" "I") ∈ lw_all := lw_g (lw_at lw_m4 60 rfl) rfl
theorem q899 : (Jvm.Cond.laysFinal "LiarsCock$Fact" "LiarsCock$Fact" "which" "I") ∈ lw_all := lw_g (lw_at lw_m4 61 rfl) rfl
theorem q900 : (Jvm.Cond.soleField "LiarsCock$Fact" "which") ∈ lw_all := lw_g (lw_at lw_m4 62 rfl) rfl
theorem q901 : (Jvm.Cond.superclass "LiarsCock$Fact" "LiarsCock$Expression") ∈ lw_all := lw_g (lw_at lw_m4 63 rfl) rfl
theorem q1037 : (Jvm.Cond.instanceMethod ({ cls := "LiarsCock$Fact", name := "of", desc := "(LLiarsCock$Facts;)I" } : Jvm.MethodName)) ∈ lw_all := lw_g (lw_at lw_m4 199 rfl) rfl
theorem q1038 : (Jvm.Cond.code ({ cls := "LiarsCock$Fact", name := "of", desc := "(LLiarsCock$Facts;)I" } : Jvm.MethodName) prog_7_method_2_code (2 : Nat) (Option.some Jvm.ClassFile.FieldType.int)) ∈ lw_all := lw_g (lw_at lw_m4 200 rfl) rfl
theorem q1083 : (Jvm.Cond.selects "LiarsCock$Fact" ({ cls := "LiarsCock$Expression", name := "of", desc := "(LLiarsCock$Facts;)I" } : Jvm.MethodName) ({ cls := "LiarsCock$Fact", name := "of", desc := "(LLiarsCock$Facts;)I" } : Jvm.MethodName)) ∈ lw_all := lw_g (lw_at lw_m5 5 rfl) rfl
theorem q2253 : (Jvm.Cond.castable "LiarsCock$Fact" "LiarsCock$Expression") ∈ lw_tbl := lw_at lw_m9 215 rfl
theorem q2271 : (Jvm.Cond.castable "LiarsCock$Fact" "java/lang/Object") ∈ lw_tbl := lw_at lw_m9 233 rfl
theorem in_X13 : ∀ w ∈ wsX130, w ∈ lw_all := lw_in wsX130 [899] (by decide +kernel) (by decide +kernel)

/-! LiarsCock$Plain -/
set_option maxRecDepth 100000
def RX14 : String := "LiarsCock$Plain"
def TX14 : u_T := fun k => match k with
  | _ => ("LiarsCock$Plain", "n", "I", true)
def tyX14 : Nat → FieldType := fun k => match k with
  | _ => .int
abbrev wsX140 : List Cond := u_ws RX14 TX14 1
theorem nmX14 : ∀ a, a < 1 → ∀ b, b < 1 → a ≠ b → (TX14 a).2.1 ≠ (TX14 b).2.1 := by decide +kernel
theorem tyX14_ok : ∀ k, k < 1 → parseFieldDescriptor (TX14 k).2.2.1 = some (tyX14 k) := by decide +kernel
abbrev cX14_init : ByteArray := prog_19_method_1_code
def yX14_init : MethodName := ⟨RX14, "<init>", "(I)V"⟩
def dkwX14_init_0 : List UInt8 := [42, 183, 0, 1, 42, 27, 181, 0, 7, 177]
abbrev dktX14_init_0 : List UInt8 := dkwX14_init_0 ++ []
theorem dksX14_init_0 : cX14_init.data.toList.drop 0 = dktX14_init_0 := by decide +kernel
theorem dX14_init_0 : decode cX14_init 0 = .ok (.aload_n 0, 1) := dk_42 (dk_at dksX14_init_0 0 rfl rfl)
theorem dX14_init_1 : decode cX14_init 1 = .ok (.invokespecial 1, 3) := dk_183 0 1 (dk_at dksX14_init_0 1 rfl rfl)
theorem dX14_init_4 : decode cX14_init 4 = .ok (.aload_n 0, 1) := dk_42 (dk_at dksX14_init_0 4 rfl rfl)
theorem dX14_init_5 : decode cX14_init 5 = .ok (.iload_n 1, 1) := dk_27 (dk_at dksX14_init_0 5 rfl rfl)
theorem dX14_init_6 : decode cX14_init 6 = .ok (.putfield 7, 3) := dk_181 0 7 (dk_at dksX14_init_0 6 rfl rfl)
theorem dX14_init_9 : decode cX14_init 9 = .ok (.return_, 1) := dk_177 (dk_at dksX14_init_0 9 rfl rfl)
abbrev cX14_of : ByteArray := prog_19_method_2_code
def yX14_of : MethodName := ⟨RX14, "of", "(LLiarsCock$Facts;)I"⟩
theorem dX14_of_0 : decode cX14_of 0 = .ok (.aload_n 0, 1) := by decide +kernel
theorem dX14_of_1 : decode cX14_of 1 = .ok (.getfield 7, 3) := by decide +kernel
theorem dX14_of_4 : decode cX14_of 4 = .ok (.ireturn, 1) := by decide +kernel
theorem q150 : (Jvm.Cond.initialized "LiarsCock$Plain") ∈ lw_all := lw_g (lw_at lw_m1 32 rfl) rfl
theorem q793 : (Jvm.Cond.selects "LiarsCock$Plain" ({ cls := "java/lang/Object", name := "getClass", desc := "()Ljava/lang/Class;" } : Jvm.MethodName) ({ cls := "java/lang/Object", name := "getClass", desc := "()Ljava/lang/Class;" } : Jvm.MethodName)) ∈ lw_all := lw_g (lw_at lw_m3 195 rfl) rfl
theorem q903 : (Jvm.Cond.instantiable "LiarsCock$Plain" (1 : Nat)) ∈ lw_all := lw_g (lw_at lw_m4 65 rfl) rfl
theorem q905 : (Jvm.Cond.instanceMethod ({ cls := "LiarsCock$Plain", name := "<init>", desc := "(I)V" } : Jvm.MethodName)) ∈ lw_all := lw_g (lw_at lw_m4 67 rfl) rfl
theorem q906 : (Jvm.Cond.code ({ cls := "LiarsCock$Plain", name := "<init>", desc := "(I)V" } : Jvm.MethodName) prog_19_method_1_code (2 : Nat) (Option.none : Option Jvm.ClassFile.FieldType)) ∈ lw_all := lw_g (lw_at lw_m4 68 rfl) rfl
theorem q907 : (Jvm.Cond.methodLinkNest "LiarsCock$Plain" (1 : Nat) ({ cls := "LiarsCock$Expression", name := "<init>", desc := "()V" } : Jvm.MethodName) "LiarsCock") ∈ lw_tbl := lw_at lw_m4 69 rfl
theorem q908 : (Jvm.Cond.fieldLink "LiarsCock$Plain" (7 : Nat) "LiarsCock$Plain" "n" "I") ∈ lw_all := lw_g (lw_at lw_m4 70 rfl) rfl
theorem q909 : (Jvm.Cond.laysFinal "LiarsCock$Plain" "LiarsCock$Plain" "n" "I") ∈ lw_all := lw_g (lw_at lw_m4 71 rfl) rfl
theorem q910 : (Jvm.Cond.soleField "LiarsCock$Plain" "n") ∈ lw_all := lw_g (lw_at lw_m4 72 rfl) rfl
theorem q911 : (Jvm.Cond.superclass "LiarsCock$Plain" "LiarsCock$Expression") ∈ lw_all := lw_g (lw_at lw_m4 73 rfl) rfl
theorem q1042 : (Jvm.Cond.instanceMethod ({ cls := "LiarsCock$Plain", name := "of", desc := "(LLiarsCock$Facts;)I" } : Jvm.MethodName)) ∈ lw_all := lw_g (lw_at lw_m4 204 rfl) rfl
theorem q1043 : (Jvm.Cond.code ({ cls := "LiarsCock$Plain", name := "of", desc := "(LLiarsCock$Facts;)I" } : Jvm.MethodName) prog_19_method_2_code (2 : Nat) (Option.some Jvm.ClassFile.FieldType.int)) ∈ lw_all := lw_g (lw_at lw_m4 205 rfl) rfl
theorem q1085 : (Jvm.Cond.selects "LiarsCock$Plain" ({ cls := "LiarsCock$Expression", name := "of", desc := "(LLiarsCock$Facts;)I" } : Jvm.MethodName) ({ cls := "LiarsCock$Plain", name := "of", desc := "(LLiarsCock$Facts;)I" } : Jvm.MethodName)) ∈ lw_all := lw_g (lw_at lw_m5 7 rfl) rfl
theorem q2255 : (Jvm.Cond.castable "LiarsCock$Plain" "LiarsCock$Expression") ∈ lw_tbl := lw_at lw_m9 217 rfl
theorem q2272 : (Jvm.Cond.castable "LiarsCock$Plain" "java/lang/Object") ∈ lw_tbl := lw_at lw_m9 234 rfl
theorem in_X14 : ∀ w ∈ wsX140, w ∈ lw_all := lw_in wsX140 [909] (by decide +kernel) (by decide +kernel)

/-! LiarsCock$Not -/
set_option maxRecDepth 100000
def RX15 : String := "LiarsCock$Not"
def TX15 : u_T := fun k => match k with
  | _ => ("LiarsCock$Not", "e", "LLiarsCock$Expression;", true)
def tyX15 : Nat → FieldType := fun k => match k with
  | _ => .object "LiarsCock$Expression"
abbrev wsX150 : List Cond := u_ws RX15 TX15 1
theorem nmX15 : ∀ a, a < 1 → ∀ b, b < 1 → a ≠ b → (TX15 a).2.1 ≠ (TX15 b).2.1 := by decide +kernel
theorem tyX15_ok : ∀ k, k < 1 → parseFieldDescriptor (TX15 k).2.2.1 = some (tyX15 k) := by decide +kernel
abbrev cX15_init : ByteArray := prog_15_method_1_code
def yX15_init : MethodName := ⟨RX15, "<init>", "(LLiarsCock$Expression;)V"⟩
def dkwX15_init_0 : List UInt8 := [42, 183, 0, 1, 42, 43, 181, 0, 7, 177]
abbrev dktX15_init_0 : List UInt8 := dkwX15_init_0 ++ []
theorem dksX15_init_0 : cX15_init.data.toList.drop 0 = dktX15_init_0 := by decide +kernel
theorem dX15_init_0 : decode cX15_init 0 = .ok (.aload_n 0, 1) := dk_42 (dk_at dksX15_init_0 0 rfl rfl)
theorem dX15_init_1 : decode cX15_init 1 = .ok (.invokespecial 1, 3) := dk_183 0 1 (dk_at dksX15_init_0 1 rfl rfl)
theorem dX15_init_4 : decode cX15_init 4 = .ok (.aload_n 0, 1) := dk_42 (dk_at dksX15_init_0 4 rfl rfl)
theorem dX15_init_5 : decode cX15_init 5 = .ok (.aload_n 1, 1) := dk_43 (dk_at dksX15_init_0 5 rfl rfl)
theorem dX15_init_6 : decode cX15_init 6 = .ok (.putfield 7, 3) := dk_181 0 7 (dk_at dksX15_init_0 6 rfl rfl)
theorem dX15_init_9 : decode cX15_init 9 = .ok (.return_, 1) := dk_177 (dk_at dksX15_init_0 9 rfl rfl)
abbrev cX15_of : ByteArray := prog_15_method_2_code
def yX15_of : MethodName := ⟨RX15, "of", "(LLiarsCock$Facts;)I"⟩
def dkwX15_of_0 : List UInt8 := [42, 180, 0, 7, 43, 182, 0, 13, 154, 0, 7, 4, 167, 0, 4, 3, 172]
abbrev dktX15_of_0 : List UInt8 := dkwX15_of_0 ++ []
theorem dksX15_of_0 : cX15_of.data.toList.drop 0 = dktX15_of_0 := by decide +kernel
theorem dX15_of_0 : decode cX15_of 0 = .ok (.aload_n 0, 1) := dk_42 (dk_at dksX15_of_0 0 rfl rfl)
theorem dX15_of_1 : decode cX15_of 1 = .ok (.getfield 7, 3) := dk_180 0 7 (dk_at dksX15_of_0 1 rfl rfl)
theorem dX15_of_4 : decode cX15_of 4 = .ok (.aload_n 1, 1) := dk_43 (dk_at dksX15_of_0 4 rfl rfl)
theorem dX15_of_5 : decode cX15_of 5 = .ok (.invokevirtual 13, 3) := dk_182 0 13 (dk_at dksX15_of_0 5 rfl rfl)
theorem dX15_of_8 : decode cX15_of 8 = .ok (.ifCond .ne 7, 3) := dk_154 0 7 (dk_at dksX15_of_0 8 rfl rfl)
theorem dX15_of_11 : decode cX15_of 11 = .ok (.iconst 1, 1) := dk_4 (dk_at dksX15_of_0 11 rfl rfl)
theorem dX15_of_12 : decode cX15_of 12 = .ok (.goto 4, 3) := dk_167 0 4 (dk_at dksX15_of_0 12 rfl rfl)
theorem dX15_of_15 : decode cX15_of 15 = .ok (.iconst 0, 1) := dk_3 (dk_at dksX15_of_0 15 rfl rfl)
theorem dX15_of_16 : decode cX15_of 16 = .ok (.ireturn, 1) := dk_172 (dk_at dksX15_of_0 16 rfl rfl)
theorem q151 : (Jvm.Cond.initialized "LiarsCock$Not") ∈ lw_all := lw_g (lw_at lw_m1 33 rfl) rfl
theorem q789 : (Jvm.Cond.selects "LiarsCock$Not" ({ cls := "java/lang/Object", name := "getClass", desc := "()Ljava/lang/Class;" } : Jvm.MethodName) ({ cls := "java/lang/Object", name := "getClass", desc := "()Ljava/lang/Class;" } : Jvm.MethodName)) ∈ lw_all := lw_g (lw_at lw_m3 191 rfl) rfl
theorem q913 : (Jvm.Cond.instantiable "LiarsCock$Not" (1 : Nat)) ∈ lw_all := lw_g (lw_at lw_m4 75 rfl) rfl
theorem q915 : (Jvm.Cond.instanceMethod ({ cls := "LiarsCock$Not", name := "<init>", desc := "(LLiarsCock$Expression;)V" } : Jvm.MethodName)) ∈ lw_all := lw_g (lw_at lw_m4 77 rfl) rfl
theorem q916 : (Jvm.Cond.code ({ cls := "LiarsCock$Not", name := "<init>", desc := "(LLiarsCock$Expression;)V" } : Jvm.MethodName) prog_15_method_1_code (2 : Nat) (Option.none : Option Jvm.ClassFile.FieldType)) ∈ lw_all := lw_g (lw_at lw_m4 78 rfl) rfl
theorem q917 : (Jvm.Cond.methodLinkNest "LiarsCock$Not" (1 : Nat) ({ cls := "LiarsCock$Expression", name := "<init>", desc := "()V" } : Jvm.MethodName) "LiarsCock") ∈ lw_tbl := lw_at lw_m4 79 rfl
theorem q918 : (Jvm.Cond.fieldLink "LiarsCock$Not" (7 : Nat) "LiarsCock$Not" "e" "LLiarsCock$Expression;") ∈ lw_all := lw_g (lw_at lw_m4 80 rfl) rfl
theorem q919 : (Jvm.Cond.laysFinal "LiarsCock$Not" "LiarsCock$Not" "e" "LLiarsCock$Expression;") ∈ lw_all := lw_g (lw_at lw_m4 81 rfl) rfl
theorem q920 : (Jvm.Cond.soleField "LiarsCock$Not" "e") ∈ lw_all := lw_g (lw_at lw_m4 82 rfl) rfl
theorem q921 : (Jvm.Cond.superclass "LiarsCock$Not" "LiarsCock$Expression") ∈ lw_all := lw_g (lw_at lw_m4 83 rfl) rfl
theorem q1039 : (Jvm.Cond.instanceMethod ({ cls := "LiarsCock$Not", name := "of", desc := "(LLiarsCock$Facts;)I" } : Jvm.MethodName)) ∈ lw_all := lw_g (lw_at lw_m4 201 rfl) rfl
theorem q1040 : (Jvm.Cond.code ({ cls := "LiarsCock$Not", name := "of", desc := "(LLiarsCock$Facts;)I" } : Jvm.MethodName) prog_15_method_2_code (2 : Nat) (Option.some Jvm.ClassFile.FieldType.int)) ∈ lw_all := lw_g (lw_at lw_m4 202 rfl) rfl
theorem q1041 : (Jvm.Cond.methodLink "LiarsCock$Not" (13 : Nat) ({ cls := "LiarsCock$Expression", name := "of", desc := "(LLiarsCock$Facts;)I" } : Jvm.MethodName)) ∈ lw_all := lw_g (lw_at lw_m4 203 rfl) rfl
theorem q1084 : (Jvm.Cond.selects "LiarsCock$Not" ({ cls := "LiarsCock$Expression", name := "of", desc := "(LLiarsCock$Facts;)I" } : Jvm.MethodName) ({ cls := "LiarsCock$Not", name := "of", desc := "(LLiarsCock$Facts;)I" } : Jvm.MethodName)) ∈ lw_all := lw_g (lw_at lw_m5 6 rfl) rfl
theorem q2254 : (Jvm.Cond.castable "LiarsCock$Not" "LiarsCock$Expression") ∈ lw_tbl := lw_at lw_m9 216 rfl
theorem q2273 : (Jvm.Cond.castable "LiarsCock$Not" "java/lang/Object") ∈ lw_tbl := lw_at lw_m9 235 rfl
theorem in_X15 : ∀ w ∈ wsX150, w ∈ lw_all := lw_in wsX150 [919] (by decide +kernel) (by decide +kernel)

/-! LiarsCock$Chain -/
set_option maxRecDepth 100000
def RX16 : String := "LiarsCock$Chain"
def TX16 : u_T := fun k => match k with
  | 0 => ("LiarsCock$Chain", "first", "LLiarsCock$Expression;", true)
  | _ => ("LiarsCock$Chain", "links", "Ljava/util/ArrayList;", true)
def tyX16 : Nat → FieldType := fun k => match k with
  | 0 => .object "LiarsCock$Expression"
  | _ => .object "java/util/ArrayList"
abbrev wsX160 : List Cond := u_ws RX16 TX16 2
theorem nmX16 : ∀ a, a < 2 → ∀ b, b < 2 → a ≠ b → (TX16 a).2.1 ≠ (TX16 b).2.1 := by decide +kernel
theorem tyX16_ok : ∀ k, k < 2 → parseFieldDescriptor (TX16 k).2.2.1 = some (tyX16 k) := by decide +kernel
abbrev cX16_init : ByteArray := prog_4_method_1_code
def yX16_init : MethodName := ⟨RX16, "<init>", "(LLiarsCock$Expression;)V"⟩
def dkwX16_init_0 : List UInt8 := [42, 183, 0, 1, 42, 187, 0, 7, 89, 4, 183, 0, 9, 181, 0, 12, 42, 43, 181, 0, 18, 177]
abbrev dktX16_init_0 : List UInt8 := dkwX16_init_0 ++ []
theorem dksX16_init_0 : cX16_init.data.toList.drop 0 = dktX16_init_0 := by decide +kernel
theorem dX16_init_0 : decode cX16_init 0 = .ok (.aload_n 0, 1) := dk_42 (dk_at dksX16_init_0 0 rfl rfl)
theorem dX16_init_1 : decode cX16_init 1 = .ok (.invokespecial 1, 3) := dk_183 0 1 (dk_at dksX16_init_0 1 rfl rfl)
theorem dX16_init_4 : decode cX16_init 4 = .ok (.aload_n 0, 1) := dk_42 (dk_at dksX16_init_0 4 rfl rfl)
theorem dX16_init_5 : decode cX16_init 5 = .ok (.new 7, 3) := dk_187 0 7 (dk_at dksX16_init_0 5 rfl rfl)
theorem dX16_init_8 : decode cX16_init 8 = .ok (.dup, 1) := dk_89 (dk_at dksX16_init_0 8 rfl rfl)
theorem dX16_init_9 : decode cX16_init 9 = .ok (.iconst 1, 1) := dk_4 (dk_at dksX16_init_0 9 rfl rfl)
theorem dX16_init_10 : decode cX16_init 10 = .ok (.invokespecial 9, 3) := dk_183 0 9 (dk_at dksX16_init_0 10 rfl rfl)
theorem dX16_init_13 : decode cX16_init 13 = .ok (.putfield 12, 3) := dk_181 0 12 (dk_at dksX16_init_0 13 rfl rfl)
theorem dX16_init_16 : decode cX16_init 16 = .ok (.aload_n 0, 1) := dk_42 (dk_at dksX16_init_0 16 rfl rfl)
theorem dX16_init_17 : decode cX16_init 17 = .ok (.aload_n 1, 1) := dk_43 (dk_at dksX16_init_0 17 rfl rfl)
theorem dX16_init_18 : decode cX16_init 18 = .ok (.putfield 18, 3) := dk_181 0 18 (dk_at dksX16_init_0 18 rfl rfl)
theorem dX16_init_21 : decode cX16_init 21 = .ok (.return_, 1) := dk_177 (dk_at dksX16_init_0 21 rfl rfl)
abbrev cX16_of : ByteArray := prog_4_method_2_code
def yX16_of : MethodName := ⟨RX16, "of", "(LLiarsCock$Facts;)I"⟩
def dkwX16_of_1 : List UInt8 := [180, 0, 12, 29, 182, 0, 30, 192, 0, 34, 28, 43, 182, 0, 36, 61, 132, 3, 1, 167, 255, 225, 28, 172]
abbrev dktX16_of_1 : List UInt8 := dkwX16_of_1 ++ []
def dkwX16_of_0 : List UInt8 := [42, 180, 0, 18, 43, 182, 0, 22, 61, 3, 62, 29, 42, 180, 0, 12, 182, 0, 26, 162, 0, 26, 42]
abbrev dktX16_of_0 : List UInt8 := dkwX16_of_0 ++ dktX16_of_1
theorem dksX16_of_0 : cX16_of.data.toList.drop 0 = dktX16_of_0 := by decide +kernel
theorem dksX16_of_1 : cX16_of.data.toList.drop 23 = dktX16_of_1 := dk_seg dksX16_of_0 23 rfl rfl
theorem dX16_of_0 : decode cX16_of 0 = .ok (.aload_n 0, 1) := dk_42 (dk_at dksX16_of_0 0 rfl rfl)
theorem dX16_of_1 : decode cX16_of 1 = .ok (.getfield 18, 3) := dk_180 0 18 (dk_at dksX16_of_0 1 rfl rfl)
theorem dX16_of_4 : decode cX16_of 4 = .ok (.aload_n 1, 1) := dk_43 (dk_at dksX16_of_0 4 rfl rfl)
theorem dX16_of_5 : decode cX16_of 5 = .ok (.invokevirtual 22, 3) := dk_182 0 22 (dk_at dksX16_of_0 5 rfl rfl)
theorem dX16_of_8 : decode cX16_of 8 = .ok (.istore_n 2, 1) := dk_61 (dk_at dksX16_of_0 8 rfl rfl)
theorem dX16_of_9 : decode cX16_of 9 = .ok (.iconst 0, 1) := dk_3 (dk_at dksX16_of_0 9 rfl rfl)
theorem dX16_of_10 : decode cX16_of 10 = .ok (.istore_n 3, 1) := dk_62 (dk_at dksX16_of_0 10 rfl rfl)
theorem dX16_of_11 : decode cX16_of 11 = .ok (.iload_n 3, 1) := dk_29 (dk_at dksX16_of_0 11 rfl rfl)
theorem dX16_of_12 : decode cX16_of 12 = .ok (.aload_n 0, 1) := dk_42 (dk_at dksX16_of_0 12 rfl rfl)
theorem dX16_of_13 : decode cX16_of 13 = .ok (.getfield 12, 3) := dk_180 0 12 (dk_at dksX16_of_0 13 rfl rfl)
theorem dX16_of_16 : decode cX16_of 16 = .ok (.invokevirtual 26, 3) := dk_182 0 26 (dk_at dksX16_of_0 16 rfl rfl)
theorem dX16_of_19 : decode cX16_of 19 = .ok (.if_icmp .ge 26, 3) := dk_162 0 26 (dk_at dksX16_of_0 19 rfl rfl)
theorem dX16_of_22 : decode cX16_of 22 = .ok (.aload_n 0, 1) := dk_42 (dk_at dksX16_of_0 22 rfl rfl)
theorem dX16_of_23 : decode cX16_of 23 = .ok (.getfield 12, 3) := dk_180 0 12 (dk_at dksX16_of_1 0 rfl rfl)
theorem dX16_of_26 : decode cX16_of 26 = .ok (.iload_n 3, 1) := dk_29 (dk_at dksX16_of_1 3 rfl rfl)
theorem dX16_of_27 : decode cX16_of 27 = .ok (.invokevirtual 30, 3) := dk_182 0 30 (dk_at dksX16_of_1 4 rfl rfl)
theorem dX16_of_30 : decode cX16_of 30 = .ok (.checkcast 34, 3) := dk_192 0 34 (dk_at dksX16_of_1 7 rfl rfl)
theorem dX16_of_33 : decode cX16_of 33 = .ok (.iload_n 2, 1) := dk_28 (dk_at dksX16_of_1 10 rfl rfl)
theorem dX16_of_34 : decode cX16_of 34 = .ok (.aload_n 1, 1) := dk_43 (dk_at dksX16_of_1 11 rfl rfl)
theorem dX16_of_35 : decode cX16_of 35 = .ok (.invokevirtual 36, 3) := dk_182 0 36 (dk_at dksX16_of_1 12 rfl rfl)
theorem dX16_of_38 : decode cX16_of 38 = .ok (.istore_n 2, 1) := dk_61 (dk_at dksX16_of_1 15 rfl rfl)
theorem dX16_of_39 : decode cX16_of 39 = .ok (.iinc 3 1, 3) := dk_132 3 1 (dk_at dksX16_of_1 16 rfl rfl)
theorem dX16_of_42 : decode cX16_of 42 = .ok (.goto (-31), 3) := dk_167 255 225 (dk_at dksX16_of_1 19 rfl rfl)
theorem dX16_of_45 : decode cX16_of 45 = .ok (.iload_n 2, 1) := dk_28 (dk_at dksX16_of_1 22 rfl rfl)
theorem dX16_of_46 : decode cX16_of 46 = .ok (.ireturn, 1) := dk_172 (dk_at dksX16_of_1 23 rfl rfl)
theorem q152 : (Jvm.Cond.initialized "LiarsCock$Chain") ∈ lw_all := lw_g (lw_at lw_m1 34 rfl) rfl
theorem q780 : (Jvm.Cond.selects "LiarsCock$Chain" ({ cls := "java/lang/Object", name := "getClass", desc := "()Ljava/lang/Class;" } : Jvm.MethodName) ({ cls := "java/lang/Object", name := "getClass", desc := "()Ljava/lang/Class;" } : Jvm.MethodName)) ∈ lw_all := lw_g (lw_at lw_m3 182 rfl) rfl
theorem q934 : (Jvm.Cond.instantiable "LiarsCock$Chain" (2 : Nat)) ∈ lw_all := lw_g (lw_at lw_m4 96 rfl) rfl
theorem q936 : (Jvm.Cond.instanceMethod ({ cls := "LiarsCock$Chain", name := "<init>", desc := "(LLiarsCock$Expression;)V" } : Jvm.MethodName)) ∈ lw_all := lw_g (lw_at lw_m4 98 rfl) rfl
theorem q937 : (Jvm.Cond.code ({ cls := "LiarsCock$Chain", name := "<init>", desc := "(LLiarsCock$Expression;)V" } : Jvm.MethodName) prog_4_method_1_code (2 : Nat) (Option.none : Option Jvm.ClassFile.FieldType)) ∈ lw_all := lw_g (lw_at lw_m4 99 rfl) rfl
theorem q938 : (Jvm.Cond.methodLinkNest "LiarsCock$Chain" (1 : Nat) ({ cls := "LiarsCock$Expression", name := "<init>", desc := "()V" } : Jvm.MethodName) "LiarsCock") ∈ lw_tbl := lw_at lw_m4 100 rfl
theorem q939 : (Jvm.Cond.classLink "LiarsCock$Chain" (7 : Nat) "java/util/ArrayList") ∈ lw_all := lw_g (lw_at lw_m4 101 rfl) rfl
theorem q940 : (Jvm.Cond.methodLink "LiarsCock$Chain" (9 : Nat) ({ cls := "java/util/ArrayList", name := "<init>", desc := "(I)V" } : Jvm.MethodName)) ∈ lw_all := lw_g (lw_at lw_m4 102 rfl) rfl
theorem q941 : (Jvm.Cond.fieldLink "LiarsCock$Chain" (18 : Nat) "LiarsCock$Chain" "first" "LLiarsCock$Expression;") ∈ lw_all := lw_g (lw_at lw_m4 103 rfl) rfl
theorem q942 : (Jvm.Cond.fieldLink "LiarsCock$Chain" (12 : Nat) "LiarsCock$Chain" "links" "Ljava/util/ArrayList;") ∈ lw_all := lw_g (lw_at lw_m4 104 rfl) rfl
theorem q944 : (Jvm.Cond.laysFinal "LiarsCock$Chain" "LiarsCock$Chain" "first" "LLiarsCock$Expression;") ∈ lw_all := lw_g (lw_at lw_m4 106 rfl) rfl
theorem q945 : (Jvm.Cond.soleField "LiarsCock$Chain" "first") ∈ lw_all := lw_g (lw_at lw_m4 107 rfl) rfl
theorem q946 : (Jvm.Cond.laysFinal "LiarsCock$Chain" "LiarsCock$Chain" "links" "Ljava/util/ArrayList;") ∈ lw_all := lw_g (lw_at lw_m4 108 rfl) rfl
theorem q947 : (Jvm.Cond.soleField "LiarsCock$Chain" "links") ∈ lw_all := lw_g (lw_at lw_m4 109 rfl) rfl
theorem q948 : (Jvm.Cond.superclass "LiarsCock$Chain" "LiarsCock$Expression") ∈ lw_all := lw_g (lw_at lw_m4 110 rfl) rfl
theorem q1033 : (Jvm.Cond.selects "LiarsCock$Chain" ({ cls := "LiarsCock$Expression", name := "of", desc := "(LLiarsCock$Facts;)I" } : Jvm.MethodName) ({ cls := "LiarsCock$Chain", name := "of", desc := "(LLiarsCock$Facts;)I" } : Jvm.MethodName)) ∈ lw_all := lw_g (lw_at lw_m4 195 rfl) rfl
theorem q1034 : (Jvm.Cond.instanceMethod ({ cls := "LiarsCock$Chain", name := "of", desc := "(LLiarsCock$Facts;)I" } : Jvm.MethodName)) ∈ lw_all := lw_g (lw_at lw_m4 196 rfl) rfl
theorem q1035 : (Jvm.Cond.code ({ cls := "LiarsCock$Chain", name := "of", desc := "(LLiarsCock$Facts;)I" } : Jvm.MethodName) prog_4_method_2_code (4 : Nat) (Option.some Jvm.ClassFile.FieldType.int)) ∈ lw_all := lw_g (lw_at lw_m4 197 rfl) rfl
theorem q1036 : (Jvm.Cond.methodLink "LiarsCock$Chain" (22 : Nat) ({ cls := "LiarsCock$Expression", name := "of", desc := "(LLiarsCock$Facts;)I" } : Jvm.MethodName)) ∈ lw_all := lw_g (lw_at lw_m4 198 rfl) rfl
theorem q1044 : (Jvm.Cond.methodLink "LiarsCock$Chain" (26 : Nat) ({ cls := "java/util/ArrayList", name := "size", desc := "()I" } : Jvm.MethodName)) ∈ lw_all := lw_g (lw_at lw_m4 206 rfl) rfl
theorem q1045 : (Jvm.Cond.methodLink "LiarsCock$Chain" (30 : Nat) ({ cls := "java/util/ArrayList", name := "get", desc := "(I)Ljava/lang/Object;" } : Jvm.MethodName)) ∈ lw_all := lw_g (lw_at lw_m4 207 rfl) rfl
theorem q1046 : (Jvm.Cond.classLink "LiarsCock$Chain" (34 : Nat) "LiarsCock$Link") ∈ lw_all := lw_g (lw_at lw_m4 208 rfl) rfl
theorem q1047 : (Jvm.Cond.methodLink "LiarsCock$Chain" (36 : Nat) ({ cls := "LiarsCock$Link", name := "on", desc := "(ILLiarsCock$Facts;)I" } : Jvm.MethodName)) ∈ lw_all := lw_g (lw_at lw_m4 209 rfl) rfl
theorem q2252 : (Jvm.Cond.castable "LiarsCock$Chain" "LiarsCock$Expression") ∈ lw_tbl := lw_at lw_m9 214 rfl
theorem q2274 : (Jvm.Cond.castable "LiarsCock$Chain" "java/lang/Object") ∈ lw_tbl := lw_at lw_m9 236 rfl
theorem in_X16 : ∀ w ∈ wsX160, w ∈ lw_all := lw_in wsX160 [944, 946] (by decide +kernel) (by decide +kernel)

/-! LiarsCock$Link -/
set_option maxRecDepth 100000
def RX17 : String := "LiarsCock$Link"
abbrev cX17_init : ByteArray := prog_10_method_1_code
def yX17_init : MethodName := ⟨RX17, "<init>", "(LLiarsCock$Expression;)V"⟩
def dkwX17_init_0 : List UInt8 := [42, 183, 0, 1, 42, 43, 181, 0, 7, 177]
abbrev dktX17_init_0 : List UInt8 := dkwX17_init_0 ++ []
theorem dksX17_init_0 : cX17_init.data.toList.drop 0 = dktX17_init_0 := by decide +kernel
theorem dX17_init_0 : decode cX17_init 0 = .ok (.aload_n 0, 1) := dk_42 (dk_at dksX17_init_0 0 rfl rfl)
theorem dX17_init_1 : decode cX17_init 1 = .ok (.invokespecial 1, 3) := dk_183 0 1 (dk_at dksX17_init_0 1 rfl rfl)
theorem dX17_init_4 : decode cX17_init 4 = .ok (.aload_n 0, 1) := dk_42 (dk_at dksX17_init_0 4 rfl rfl)
theorem dX17_init_5 : decode cX17_init 5 = .ok (.aload_n 1, 1) := dk_43 (dk_at dksX17_init_0 5 rfl rfl)
theorem dX17_init_6 : decode cX17_init 6 = .ok (.putfield 7, 3) := dk_181 0 7 (dk_at dksX17_init_0 6 rfl rfl)
theorem dX17_init_9 : decode cX17_init 9 = .ok (.return_, 1) := dk_177 (dk_at dksX17_init_0 9 rfl rfl)
abbrev cX17_on : ByteArray := prog_10_method_3_code
def yX17_on : MethodName := ⟨RX17, "on", "(ILLiarsCock$Facts;)I"⟩
def dkwX17_on_0 : List UInt8 := [42, 27, 42, 180, 0, 7, 44, 182, 0, 13, 182, 0, 19, 172]
abbrev dktX17_on_0 : List UInt8 := dkwX17_on_0 ++ []
theorem dksX17_on_0 : cX17_on.data.toList.drop 0 = dktX17_on_0 := by decide +kernel
theorem dX17_on_0 : decode cX17_on 0 = .ok (.aload_n 0, 1) := dk_42 (dk_at dksX17_on_0 0 rfl rfl)
theorem dX17_on_1 : decode cX17_on 1 = .ok (.iload_n 1, 1) := dk_27 (dk_at dksX17_on_0 1 rfl rfl)
theorem dX17_on_2 : decode cX17_on 2 = .ok (.aload_n 0, 1) := dk_42 (dk_at dksX17_on_0 2 rfl rfl)
theorem dX17_on_3 : decode cX17_on 3 = .ok (.getfield 7, 3) := dk_180 0 7 (dk_at dksX17_on_0 3 rfl rfl)
theorem dX17_on_6 : decode cX17_on 6 = .ok (.aload_n 2, 1) := dk_44 (dk_at dksX17_on_0 6 rfl rfl)
theorem dX17_on_7 : decode cX17_on 7 = .ok (.invokevirtual 13, 3) := dk_182 0 13 (dk_at dksX17_on_0 7 rfl rfl)
theorem dX17_on_10 : decode cX17_on 10 = .ok (.invokevirtual 19, 3) := dk_182 0 19 (dk_at dksX17_on_0 10 rfl rfl)
theorem dX17_on_13 : decode cX17_on 13 = .ok (.ireturn, 1) := dk_172 (dk_at dksX17_on_0 13 rfl rfl)
theorem q153 : (Jvm.Cond.initialized "LiarsCock$Link") ∈ lw_all := lw_g (lw_at lw_m1 35 rfl) rfl
theorem q955 : (Jvm.Cond.instanceMethod ({ cls := "LiarsCock$Link", name := "<init>", desc := "(LLiarsCock$Expression;)V" } : Jvm.MethodName)) ∈ lw_all := lw_g (lw_at lw_m4 117 rfl) rfl
theorem q956 : (Jvm.Cond.code ({ cls := "LiarsCock$Link", name := "<init>", desc := "(LLiarsCock$Expression;)V" } : Jvm.MethodName) prog_10_method_1_code (2 : Nat) (Option.none : Option Jvm.ClassFile.FieldType)) ∈ lw_all := lw_g (lw_at lw_m4 118 rfl) rfl
theorem q957 : (Jvm.Cond.methodLink "LiarsCock$Link" (1 : Nat) ({ cls := "java/lang/Object", name := "<init>", desc := "()V" } : Jvm.MethodName)) ∈ lw_all := lw_g (lw_at lw_m4 119 rfl) rfl
theorem q958 : (Jvm.Cond.fieldLink "LiarsCock$Link" (7 : Nat) "LiarsCock$Link" "e" "LLiarsCock$Expression;") ∈ lw_all := lw_g (lw_at lw_m4 120 rfl) rfl
theorem q960 : (Jvm.Cond.soleField "LiarsCock$Link" "e") ∈ lw_all := lw_g (lw_at lw_m4 122 rfl) rfl
theorem q1048 : (Jvm.Cond.instanceMethod ({ cls := "LiarsCock$Link", name := "on", desc := "(ILLiarsCock$Facts;)I" } : Jvm.MethodName)) ∈ lw_all := lw_g (lw_at lw_m4 210 rfl) rfl
theorem q1049 : (Jvm.Cond.sameMethod "LiarsCock$Link" "LiarsCock$Link" "on" "(ILLiarsCock$Facts;)I") ∈ lw_all := lw_g (lw_at lw_m4 211 rfl) rfl
theorem q1057 : (Jvm.Cond.code ({ cls := "LiarsCock$Link", name := "on", desc := "(ILLiarsCock$Facts;)I" } : Jvm.MethodName) prog_10_method_3_code (3 : Nat) (Option.some Jvm.ClassFile.FieldType.int)) ∈ lw_all := lw_g (lw_at lw_m4 219 rfl) rfl
theorem q1058 : (Jvm.Cond.methodLink "LiarsCock$Link" (13 : Nat) ({ cls := "LiarsCock$Expression", name := "of", desc := "(LLiarsCock$Facts;)I" } : Jvm.MethodName)) ∈ lw_all := lw_g (lw_at lw_m4 220 rfl) rfl
theorem q1059 : (Jvm.Cond.methodLink "LiarsCock$Link" (19 : Nat) ({ cls := "LiarsCock$Link", name := "with", desc := "(II)I" } : Jvm.MethodName)) ∈ lw_all := lw_g (lw_at lw_m4 221 rfl) rfl
theorem q1060 : (Jvm.Cond.declares ({ cls := "LiarsCock$Link", name := "with", desc := "(II)I" } : Jvm.MethodName)) ∈ lw_tbl := lw_at lw_m4 222 rfl
theorem q1061 : (Jvm.Cond.sameMethod "LiarsCock$Link" "LiarsCock$Link" "with" "(II)I") ∈ lw_all := lw_g (lw_at lw_m4 223 rfl) rfl

/-! LiarsCock$Times -/
set_option maxRecDepth 100000
def RX18 : String := "LiarsCock$Times"
def TX18 : u_T := fun k => match k with
  | _ => ("LiarsCock$Link", "e", "LLiarsCock$Expression;", true)
def tyX18 : Nat → FieldType := fun k => match k with
  | _ => .object "LiarsCock$Expression"
abbrev wsX180 : List Cond := u_ws RX18 TX18 1
theorem nmX18 : ∀ a, a < 1 → ∀ b, b < 1 → a ≠ b → (TX18 a).2.1 ≠ (TX18 b).2.1 := by decide +kernel
theorem tyX18_ok : ∀ k, k < 1 → parseFieldDescriptor (TX18 k).2.2.1 = some (tyX18 k) := by decide +kernel
abbrev cX18_init : ByteArray := prog_25_method_1_code
def yX18_init : MethodName := ⟨RX18, "<init>", "(LLiarsCock$Expression;)V"⟩
def dkwX18_init_0 : List UInt8 := [42, 43, 183, 0, 1, 177]
abbrev dktX18_init_0 : List UInt8 := dkwX18_init_0 ++ []
theorem dksX18_init_0 : cX18_init.data.toList.drop 0 = dktX18_init_0 := by decide +kernel
theorem dX18_init_0 : decode cX18_init 0 = .ok (.aload_n 0, 1) := dk_42 (dk_at dksX18_init_0 0 rfl rfl)
theorem dX18_init_1 : decode cX18_init 1 = .ok (.aload_n 1, 1) := dk_43 (dk_at dksX18_init_0 1 rfl rfl)
theorem dX18_init_2 : decode cX18_init 2 = .ok (.invokespecial 1, 3) := dk_183 0 1 (dk_at dksX18_init_0 2 rfl rfl)
theorem dX18_init_5 : decode cX18_init 5 = .ok (.return_, 1) := dk_177 (dk_at dksX18_init_0 5 rfl rfl)
abbrev cX18_with : ByteArray := prog_25_method_2_code
def yX18_with : MethodName := ⟨RX18, "with", "(II)I"⟩
def dkwX18_with_0 : List UInt8 := [27, 28, 104, 172]
abbrev dktX18_with_0 : List UInt8 := dkwX18_with_0 ++ []
theorem dksX18_with_0 : cX18_with.data.toList.drop 0 = dktX18_with_0 := by decide +kernel
theorem dX18_with_0 : decode cX18_with 0 = .ok (.iload_n 1, 1) := dk_27 (dk_at dksX18_with_0 0 rfl rfl)
theorem dX18_with_1 : decode cX18_with 1 = .ok (.iload_n 2, 1) := dk_28 (dk_at dksX18_with_0 1 rfl rfl)
theorem dX18_with_2 : decode cX18_with 2 = .ok (.imul, 1) := dk_104 (dk_at dksX18_with_0 2 rfl rfl)
theorem dX18_with_3 : decode cX18_with 3 = .ok (.ireturn, 1) := dk_172 (dk_at dksX18_with_0 3 rfl rfl)
theorem q154 : (Jvm.Cond.initialized "LiarsCock$Times") ∈ lw_all := lw_g (lw_at lw_m1 36 rfl) rfl
theorem q799 : (Jvm.Cond.selects "LiarsCock$Times" ({ cls := "java/lang/Object", name := "getClass", desc := "()Ljava/lang/Class;" } : Jvm.MethodName) ({ cls := "java/lang/Object", name := "getClass", desc := "()Ljava/lang/Class;" } : Jvm.MethodName)) ∈ lw_all := lw_g (lw_at lw_m3 201 rfl) rfl
theorem q950 : (Jvm.Cond.instantiable "LiarsCock$Times" (1 : Nat)) ∈ lw_all := lw_g (lw_at lw_m4 112 rfl) rfl
theorem q952 : (Jvm.Cond.instanceMethod ({ cls := "LiarsCock$Times", name := "<init>", desc := "(LLiarsCock$Expression;)V" } : Jvm.MethodName)) ∈ lw_all := lw_g (lw_at lw_m4 114 rfl) rfl
theorem q953 : (Jvm.Cond.code ({ cls := "LiarsCock$Times", name := "<init>", desc := "(LLiarsCock$Expression;)V" } : Jvm.MethodName) prog_25_method_1_code (2 : Nat) (Option.none : Option Jvm.ClassFile.FieldType)) ∈ lw_all := lw_g (lw_at lw_m4 115 rfl) rfl
theorem q954 : (Jvm.Cond.methodLink "LiarsCock$Times" (1 : Nat) ({ cls := "LiarsCock$Link", name := "<init>", desc := "(LLiarsCock$Expression;)V" } : Jvm.MethodName)) ∈ lw_all := lw_g (lw_at lw_m4 116 rfl) rfl
theorem q959 : (Jvm.Cond.laysFinal "LiarsCock$Times" "LiarsCock$Link" "e" "LLiarsCock$Expression;") ∈ lw_all := lw_g (lw_at lw_m4 121 rfl) rfl
theorem q961 : (Jvm.Cond.superclass "LiarsCock$Times" "LiarsCock$Link") ∈ lw_all := lw_g (lw_at lw_m4 123 rfl) rfl
theorem q1056 : (Jvm.Cond.selects "LiarsCock$Times" ({ cls := "LiarsCock$Link", name := "on", desc := "(ILLiarsCock$Facts;)I" } : Jvm.MethodName) ({ cls := "LiarsCock$Link", name := "on", desc := "(ILLiarsCock$Facts;)I" } : Jvm.MethodName)) ∈ lw_all := lw_g (lw_at lw_m4 218 rfl) rfl
theorem q1080 : (Jvm.Cond.selects "LiarsCock$Times" ({ cls := "LiarsCock$Link", name := "with", desc := "(II)I" } : Jvm.MethodName) ({ cls := "LiarsCock$Times", name := "with", desc := "(II)I" } : Jvm.MethodName)) ∈ lw_all := lw_g (lw_at lw_m5 2 rfl) rfl
theorem q1081 : (Jvm.Cond.instanceMethod ({ cls := "LiarsCock$Times", name := "with", desc := "(II)I" } : Jvm.MethodName)) ∈ lw_all := lw_g (lw_at lw_m5 3 rfl) rfl
theorem q1082 : (Jvm.Cond.code ({ cls := "LiarsCock$Times", name := "with", desc := "(II)I" } : Jvm.MethodName) prog_25_method_2_code (3 : Nat) (Option.some Jvm.ClassFile.FieldType.int)) ∈ lw_all := lw_g (lw_at lw_m5 4 rfl) rfl
theorem q2251 : (Jvm.Cond.castable "LiarsCock$Times" "LiarsCock$Link") ∈ lw_tbl := lw_at lw_m9 213 rfl
theorem q2275 : (Jvm.Cond.castable "LiarsCock$Times" "java/lang/Object") ∈ lw_tbl := lw_at lw_m9 237 rfl
theorem in_X18 : ∀ w ∈ wsX180, w ∈ lw_all := lw_in wsX180 [959] (by decide +kernel) (by decide +kernel)

/-! LiarsCock$Plus -/
set_option maxRecDepth 100000
def RX19 : String := "LiarsCock$Plus"
def TX19 : u_T := fun k => match k with
  | _ => ("LiarsCock$Link", "e", "LLiarsCock$Expression;", true)
def tyX19 : Nat → FieldType := fun k => match k with
  | _ => .object "LiarsCock$Expression"
abbrev wsX190 : List Cond := u_ws RX19 TX19 1
theorem nmX19 : ∀ a, a < 1 → ∀ b, b < 1 → a ≠ b → (TX19 a).2.1 ≠ (TX19 b).2.1 := by decide +kernel
theorem tyX19_ok : ∀ k, k < 1 → parseFieldDescriptor (TX19 k).2.2.1 = some (tyX19 k) := by decide +kernel
abbrev cX19_init : ByteArray := prog_20_method_1_code
def yX19_init : MethodName := ⟨RX19, "<init>", "(LLiarsCock$Expression;)V"⟩
def dkwX19_init_0 : List UInt8 := [42, 43, 183, 0, 1, 177]
abbrev dktX19_init_0 : List UInt8 := dkwX19_init_0 ++ []
theorem dksX19_init_0 : cX19_init.data.toList.drop 0 = dktX19_init_0 := by decide +kernel
theorem dX19_init_0 : decode cX19_init 0 = .ok (.aload_n 0, 1) := dk_42 (dk_at dksX19_init_0 0 rfl rfl)
theorem dX19_init_1 : decode cX19_init 1 = .ok (.aload_n 1, 1) := dk_43 (dk_at dksX19_init_0 1 rfl rfl)
theorem dX19_init_2 : decode cX19_init 2 = .ok (.invokespecial 1, 3) := dk_183 0 1 (dk_at dksX19_init_0 2 rfl rfl)
theorem dX19_init_5 : decode cX19_init 5 = .ok (.return_, 1) := dk_177 (dk_at dksX19_init_0 5 rfl rfl)
abbrev cX19_with : ByteArray := prog_20_method_2_code
def yX19_with : MethodName := ⟨RX19, "with", "(II)I"⟩
def dkwX19_with_0 : List UInt8 := [27, 28, 96, 172]
abbrev dktX19_with_0 : List UInt8 := dkwX19_with_0 ++ []
theorem dksX19_with_0 : cX19_with.data.toList.drop 0 = dktX19_with_0 := by decide +kernel
theorem dX19_with_0 : decode cX19_with 0 = .ok (.iload_n 1, 1) := dk_27 (dk_at dksX19_with_0 0 rfl rfl)
theorem dX19_with_1 : decode cX19_with 1 = .ok (.iload_n 2, 1) := dk_28 (dk_at dksX19_with_0 1 rfl rfl)
theorem dX19_with_2 : decode cX19_with 2 = .ok (.iadd, 1) := dk_96 (dk_at dksX19_with_0 2 rfl rfl)
theorem dX19_with_3 : decode cX19_with 3 = .ok (.ireturn, 1) := dk_172 (dk_at dksX19_with_0 3 rfl rfl)
theorem q155 : (Jvm.Cond.initialized "LiarsCock$Plus") ∈ lw_all := lw_g (lw_at lw_m1 37 rfl) rfl
theorem q794 : (Jvm.Cond.selects "LiarsCock$Plus" ({ cls := "java/lang/Object", name := "getClass", desc := "()Ljava/lang/Class;" } : Jvm.MethodName) ({ cls := "java/lang/Object", name := "getClass", desc := "()Ljava/lang/Class;" } : Jvm.MethodName)) ∈ lw_all := lw_g (lw_at lw_m3 196 rfl) rfl
theorem q963 : (Jvm.Cond.instantiable "LiarsCock$Plus" (1 : Nat)) ∈ lw_all := lw_g (lw_at lw_m4 125 rfl) rfl
theorem q965 : (Jvm.Cond.instanceMethod ({ cls := "LiarsCock$Plus", name := "<init>", desc := "(LLiarsCock$Expression;)V" } : Jvm.MethodName)) ∈ lw_all := lw_g (lw_at lw_m4 127 rfl) rfl
theorem q966 : (Jvm.Cond.code ({ cls := "LiarsCock$Plus", name := "<init>", desc := "(LLiarsCock$Expression;)V" } : Jvm.MethodName) prog_20_method_1_code (2 : Nat) (Option.none : Option Jvm.ClassFile.FieldType)) ∈ lw_all := lw_g (lw_at lw_m4 128 rfl) rfl
theorem q967 : (Jvm.Cond.methodLink "LiarsCock$Plus" (1 : Nat) ({ cls := "LiarsCock$Link", name := "<init>", desc := "(LLiarsCock$Expression;)V" } : Jvm.MethodName)) ∈ lw_all := lw_g (lw_at lw_m4 129 rfl) rfl
theorem q968 : (Jvm.Cond.laysFinal "LiarsCock$Plus" "LiarsCock$Link" "e" "LLiarsCock$Expression;") ∈ lw_all := lw_g (lw_at lw_m4 130 rfl) rfl
theorem q969 : (Jvm.Cond.superclass "LiarsCock$Plus" "LiarsCock$Link") ∈ lw_all := lw_g (lw_at lw_m4 131 rfl) rfl
theorem q1054 : (Jvm.Cond.selects "LiarsCock$Plus" ({ cls := "LiarsCock$Link", name := "on", desc := "(ILLiarsCock$Facts;)I" } : Jvm.MethodName) ({ cls := "LiarsCock$Link", name := "on", desc := "(ILLiarsCock$Facts;)I" } : Jvm.MethodName)) ∈ lw_all := lw_g (lw_at lw_m4 216 rfl) rfl
theorem q1074 : (Jvm.Cond.selects "LiarsCock$Plus" ({ cls := "LiarsCock$Link", name := "with", desc := "(II)I" } : Jvm.MethodName) ({ cls := "LiarsCock$Plus", name := "with", desc := "(II)I" } : Jvm.MethodName)) ∈ lw_all := lw_g (lw_at lw_m4 236 rfl) rfl
theorem q1075 : (Jvm.Cond.instanceMethod ({ cls := "LiarsCock$Plus", name := "with", desc := "(II)I" } : Jvm.MethodName)) ∈ lw_all := lw_g (lw_at lw_m4 237 rfl) rfl
theorem q1076 : (Jvm.Cond.code ({ cls := "LiarsCock$Plus", name := "with", desc := "(II)I" } : Jvm.MethodName) prog_20_method_2_code (3 : Nat) (Option.some Jvm.ClassFile.FieldType.int)) ∈ lw_all := lw_g (lw_at lw_m4 238 rfl) rfl
theorem q2249 : (Jvm.Cond.castable "LiarsCock$Plus" "LiarsCock$Link") ∈ lw_tbl := lw_at lw_m9 211 rfl
theorem q2276 : (Jvm.Cond.castable "LiarsCock$Plus" "java/lang/Object") ∈ lw_tbl := lw_at lw_m9 238 rfl
theorem in_X19 : ∀ w ∈ wsX190, w ∈ lw_all := lw_in wsX190 [968] (by decide +kernel) (by decide +kernel)

/-! LiarsCock$Minus -/
set_option maxRecDepth 100000
def RX20 : String := "LiarsCock$Minus"
def TX20 : u_T := fun k => match k with
  | _ => ("LiarsCock$Link", "e", "LLiarsCock$Expression;", true)
def tyX20 : Nat → FieldType := fun k => match k with
  | _ => .object "LiarsCock$Expression"
abbrev wsX200 : List Cond := u_ws RX20 TX20 1
theorem nmX20 : ∀ a, a < 1 → ∀ b, b < 1 → a ≠ b → (TX20 a).2.1 ≠ (TX20 b).2.1 := by decide +kernel
theorem tyX20_ok : ∀ k, k < 1 → parseFieldDescriptor (TX20 k).2.2.1 = some (tyX20 k) := by decide +kernel
abbrev cX20_init : ByteArray := prog_14_method_1_code
def yX20_init : MethodName := ⟨RX20, "<init>", "(LLiarsCock$Expression;)V"⟩
def dkwX20_init_0 : List UInt8 := [42, 43, 183, 0, 1, 177]
abbrev dktX20_init_0 : List UInt8 := dkwX20_init_0 ++ []
theorem dksX20_init_0 : cX20_init.data.toList.drop 0 = dktX20_init_0 := by decide +kernel
theorem dX20_init_0 : decode cX20_init 0 = .ok (.aload_n 0, 1) := dk_42 (dk_at dksX20_init_0 0 rfl rfl)
theorem dX20_init_1 : decode cX20_init 1 = .ok (.aload_n 1, 1) := dk_43 (dk_at dksX20_init_0 1 rfl rfl)
theorem dX20_init_2 : decode cX20_init 2 = .ok (.invokespecial 1, 3) := dk_183 0 1 (dk_at dksX20_init_0 2 rfl rfl)
theorem dX20_init_5 : decode cX20_init 5 = .ok (.return_, 1) := dk_177 (dk_at dksX20_init_0 5 rfl rfl)
abbrev cX20_with : ByteArray := prog_14_method_2_code
def yX20_with : MethodName := ⟨RX20, "with", "(II)I"⟩
def dkwX20_with_0 : List UInt8 := [27, 28, 100, 172]
abbrev dktX20_with_0 : List UInt8 := dkwX20_with_0 ++ []
theorem dksX20_with_0 : cX20_with.data.toList.drop 0 = dktX20_with_0 := by decide +kernel
theorem dX20_with_0 : decode cX20_with 0 = .ok (.iload_n 1, 1) := dk_27 (dk_at dksX20_with_0 0 rfl rfl)
theorem dX20_with_1 : decode cX20_with 1 = .ok (.iload_n 2, 1) := dk_28 (dk_at dksX20_with_0 1 rfl rfl)
theorem dX20_with_2 : decode cX20_with 2 = .ok (.isub, 1) := dk_100 (dk_at dksX20_with_0 2 rfl rfl)
theorem dX20_with_3 : decode cX20_with 3 = .ok (.ireturn, 1) := dk_172 (dk_at dksX20_with_0 3 rfl rfl)
theorem q156 : (Jvm.Cond.initialized "LiarsCock$Minus") ∈ lw_all := lw_g (lw_at lw_m1 38 rfl) rfl
theorem q788 : (Jvm.Cond.selects "LiarsCock$Minus" ({ cls := "java/lang/Object", name := "getClass", desc := "()Ljava/lang/Class;" } : Jvm.MethodName) ({ cls := "java/lang/Object", name := "getClass", desc := "()Ljava/lang/Class;" } : Jvm.MethodName)) ∈ lw_all := lw_g (lw_at lw_m3 190 rfl) rfl
theorem q971 : (Jvm.Cond.instantiable "LiarsCock$Minus" (1 : Nat)) ∈ lw_all := lw_g (lw_at lw_m4 133 rfl) rfl
theorem q973 : (Jvm.Cond.instanceMethod ({ cls := "LiarsCock$Minus", name := "<init>", desc := "(LLiarsCock$Expression;)V" } : Jvm.MethodName)) ∈ lw_all := lw_g (lw_at lw_m4 135 rfl) rfl
theorem q974 : (Jvm.Cond.code ({ cls := "LiarsCock$Minus", name := "<init>", desc := "(LLiarsCock$Expression;)V" } : Jvm.MethodName) prog_14_method_1_code (2 : Nat) (Option.none : Option Jvm.ClassFile.FieldType)) ∈ lw_all := lw_g (lw_at lw_m4 136 rfl) rfl
theorem q975 : (Jvm.Cond.methodLink "LiarsCock$Minus" (1 : Nat) ({ cls := "LiarsCock$Link", name := "<init>", desc := "(LLiarsCock$Expression;)V" } : Jvm.MethodName)) ∈ lw_all := lw_g (lw_at lw_m4 137 rfl) rfl
theorem q976 : (Jvm.Cond.laysFinal "LiarsCock$Minus" "LiarsCock$Link" "e" "LLiarsCock$Expression;") ∈ lw_all := lw_g (lw_at lw_m4 138 rfl) rfl
theorem q977 : (Jvm.Cond.superclass "LiarsCock$Minus" "LiarsCock$Link") ∈ lw_all := lw_g (lw_at lw_m4 139 rfl) rfl
theorem q1052 : (Jvm.Cond.selects "LiarsCock$Minus" ({ cls := "LiarsCock$Link", name := "on", desc := "(ILLiarsCock$Facts;)I" } : Jvm.MethodName) ({ cls := "LiarsCock$Link", name := "on", desc := "(ILLiarsCock$Facts;)I" } : Jvm.MethodName)) ∈ lw_all := lw_g (lw_at lw_m4 214 rfl) rfl
theorem q1068 : (Jvm.Cond.selects "LiarsCock$Minus" ({ cls := "LiarsCock$Link", name := "with", desc := "(II)I" } : Jvm.MethodName) ({ cls := "LiarsCock$Minus", name := "with", desc := "(II)I" } : Jvm.MethodName)) ∈ lw_all := lw_g (lw_at lw_m4 230 rfl) rfl
theorem q1069 : (Jvm.Cond.instanceMethod ({ cls := "LiarsCock$Minus", name := "with", desc := "(II)I" } : Jvm.MethodName)) ∈ lw_all := lw_g (lw_at lw_m4 231 rfl) rfl
theorem q1070 : (Jvm.Cond.code ({ cls := "LiarsCock$Minus", name := "with", desc := "(II)I" } : Jvm.MethodName) prog_14_method_2_code (3 : Nat) (Option.some Jvm.ClassFile.FieldType.int)) ∈ lw_all := lw_g (lw_at lw_m4 232 rfl) rfl
theorem q2247 : (Jvm.Cond.castable "LiarsCock$Minus" "LiarsCock$Link") ∈ lw_tbl := lw_at lw_m9 209 rfl
theorem q2277 : (Jvm.Cond.castable "LiarsCock$Minus" "java/lang/Object") ∈ lw_tbl := lw_at lw_m9 239 rfl
theorem in_X20 : ∀ w ∈ wsX200, w ∈ lw_all := lw_in wsX200 [976] (by decide +kernel) (by decide +kernel)

/-! LiarsCock$Less -/
set_option maxRecDepth 100000
def RX21 : String := "LiarsCock$Less"
def TX21 : u_T := fun k => match k with
  | _ => ("LiarsCock$Link", "e", "LLiarsCock$Expression;", true)
def tyX21 : Nat → FieldType := fun k => match k with
  | _ => .object "LiarsCock$Expression"
abbrev wsX210 : List Cond := u_ws RX21 TX21 1
theorem nmX21 : ∀ a, a < 1 → ∀ b, b < 1 → a ≠ b → (TX21 a).2.1 ≠ (TX21 b).2.1 := by decide +kernel
theorem tyX21_ok : ∀ k, k < 1 → parseFieldDescriptor (TX21 k).2.2.1 = some (tyX21 k) := by decide +kernel
abbrev cX21_init : ByteArray := prog_9_method_1_code
def yX21_init : MethodName := ⟨RX21, "<init>", "(LLiarsCock$Expression;)V"⟩
def dkwX21_init_0 : List UInt8 := [42, 43, 183, 0, 1, 177]
abbrev dktX21_init_0 : List UInt8 := dkwX21_init_0 ++ []
theorem dksX21_init_0 : cX21_init.data.toList.drop 0 = dktX21_init_0 := by decide +kernel
theorem dX21_init_0 : decode cX21_init 0 = .ok (.aload_n 0, 1) := dk_42 (dk_at dksX21_init_0 0 rfl rfl)
theorem dX21_init_1 : decode cX21_init 1 = .ok (.aload_n 1, 1) := dk_43 (dk_at dksX21_init_0 1 rfl rfl)
theorem dX21_init_2 : decode cX21_init 2 = .ok (.invokespecial 1, 3) := dk_183 0 1 (dk_at dksX21_init_0 2 rfl rfl)
theorem dX21_init_5 : decode cX21_init 5 = .ok (.return_, 1) := dk_177 (dk_at dksX21_init_0 5 rfl rfl)
abbrev cX21_with : ByteArray := prog_9_method_2_code
def yX21_with : MethodName := ⟨RX21, "with", "(II)I"⟩
def dkwX21_with_0 : List UInt8 := [27, 28, 162, 0, 7, 4, 167, 0, 4, 3, 172]
abbrev dktX21_with_0 : List UInt8 := dkwX21_with_0 ++ []
theorem dksX21_with_0 : cX21_with.data.toList.drop 0 = dktX21_with_0 := by decide +kernel
theorem dX21_with_0 : decode cX21_with 0 = .ok (.iload_n 1, 1) := dk_27 (dk_at dksX21_with_0 0 rfl rfl)
theorem dX21_with_1 : decode cX21_with 1 = .ok (.iload_n 2, 1) := dk_28 (dk_at dksX21_with_0 1 rfl rfl)
theorem dX21_with_2 : decode cX21_with 2 = .ok (.if_icmp .ge 7, 3) := dk_162 0 7 (dk_at dksX21_with_0 2 rfl rfl)
theorem dX21_with_5 : decode cX21_with 5 = .ok (.iconst 1, 1) := dk_4 (dk_at dksX21_with_0 5 rfl rfl)
theorem dX21_with_6 : decode cX21_with 6 = .ok (.goto 4, 3) := dk_167 0 4 (dk_at dksX21_with_0 6 rfl rfl)
theorem dX21_with_9 : decode cX21_with 9 = .ok (.iconst 0, 1) := dk_3 (dk_at dksX21_with_0 9 rfl rfl)
theorem dX21_with_10 : decode cX21_with 10 = .ok (.ireturn, 1) := dk_172 (dk_at dksX21_with_0 10 rfl rfl)
theorem q157 : (Jvm.Cond.initialized "LiarsCock$Less") ∈ lw_all := lw_g (lw_at lw_m1 39 rfl) rfl
theorem q784 : (Jvm.Cond.selects "LiarsCock$Less" ({ cls := "java/lang/Object", name := "getClass", desc := "()Ljava/lang/Class;" } : Jvm.MethodName) ({ cls := "java/lang/Object", name := "getClass", desc := "()Ljava/lang/Class;" } : Jvm.MethodName)) ∈ lw_all := lw_g (lw_at lw_m3 186 rfl) rfl
theorem q979 : (Jvm.Cond.instantiable "LiarsCock$Less" (1 : Nat)) ∈ lw_all := lw_g (lw_at lw_m4 141 rfl) rfl
theorem q981 : (Jvm.Cond.instanceMethod ({ cls := "LiarsCock$Less", name := "<init>", desc := "(LLiarsCock$Expression;)V" } : Jvm.MethodName)) ∈ lw_all := lw_g (lw_at lw_m4 143 rfl) rfl
theorem q982 : (Jvm.Cond.code ({ cls := "LiarsCock$Less", name := "<init>", desc := "(LLiarsCock$Expression;)V" } : Jvm.MethodName) prog_9_method_1_code (2 : Nat) (Option.none : Option Jvm.ClassFile.FieldType)) ∈ lw_all := lw_g (lw_at lw_m4 144 rfl) rfl
theorem q983 : (Jvm.Cond.methodLink "LiarsCock$Less" (1 : Nat) ({ cls := "LiarsCock$Link", name := "<init>", desc := "(LLiarsCock$Expression;)V" } : Jvm.MethodName)) ∈ lw_all := lw_g (lw_at lw_m4 145 rfl) rfl
theorem q984 : (Jvm.Cond.laysFinal "LiarsCock$Less" "LiarsCock$Link" "e" "LLiarsCock$Expression;") ∈ lw_all := lw_g (lw_at lw_m4 146 rfl) rfl
theorem q985 : (Jvm.Cond.superclass "LiarsCock$Less" "LiarsCock$Link") ∈ lw_all := lw_g (lw_at lw_m4 147 rfl) rfl
theorem q1051 : (Jvm.Cond.selects "LiarsCock$Less" ({ cls := "LiarsCock$Link", name := "on", desc := "(ILLiarsCock$Facts;)I" } : Jvm.MethodName) ({ cls := "LiarsCock$Link", name := "on", desc := "(ILLiarsCock$Facts;)I" } : Jvm.MethodName)) ∈ lw_all := lw_g (lw_at lw_m4 213 rfl) rfl
theorem q1065 : (Jvm.Cond.selects "LiarsCock$Less" ({ cls := "LiarsCock$Link", name := "with", desc := "(II)I" } : Jvm.MethodName) ({ cls := "LiarsCock$Less", name := "with", desc := "(II)I" } : Jvm.MethodName)) ∈ lw_all := lw_g (lw_at lw_m4 227 rfl) rfl
theorem q1066 : (Jvm.Cond.instanceMethod ({ cls := "LiarsCock$Less", name := "with", desc := "(II)I" } : Jvm.MethodName)) ∈ lw_all := lw_g (lw_at lw_m4 228 rfl) rfl
theorem q1067 : (Jvm.Cond.code ({ cls := "LiarsCock$Less", name := "with", desc := "(II)I" } : Jvm.MethodName) prog_9_method_2_code (3 : Nat) (Option.some Jvm.ClassFile.FieldType.int)) ∈ lw_all := lw_g (lw_at lw_m4 229 rfl) rfl
theorem q2246 : (Jvm.Cond.castable "LiarsCock$Less" "LiarsCock$Link") ∈ lw_tbl := lw_at lw_m9 208 rfl
theorem q2278 : (Jvm.Cond.castable "LiarsCock$Less" "java/lang/Object") ∈ lw_tbl := lw_at lw_m10 0 rfl
theorem in_X21 : ∀ w ∈ wsX210, w ∈ lw_all := lw_in wsX210 [984] (by decide +kernel) (by decide +kernel)

/-! LiarsCock$Same -/
set_option maxRecDepth 100000
def RX22 : String := "LiarsCock$Same"
def TX22 : u_T := fun k => match k with
  | _ => ("LiarsCock$Link", "e", "LLiarsCock$Expression;", true)
def tyX22 : Nat → FieldType := fun k => match k with
  | _ => .object "LiarsCock$Expression"
abbrev wsX220 : List Cond := u_ws RX22 TX22 1
theorem nmX22 : ∀ a, a < 1 → ∀ b, b < 1 → a ≠ b → (TX22 a).2.1 ≠ (TX22 b).2.1 := by decide +kernel
theorem tyX22_ok : ∀ k, k < 1 → parseFieldDescriptor (TX22 k).2.2.1 = some (tyX22 k) := by decide +kernel
abbrev cX22_init : ByteArray := prog_22_method_1_code
def yX22_init : MethodName := ⟨RX22, "<init>", "(LLiarsCock$Expression;)V"⟩
def dkwX22_init_0 : List UInt8 := [42, 43, 183, 0, 1, 177]
abbrev dktX22_init_0 : List UInt8 := dkwX22_init_0 ++ []
theorem dksX22_init_0 : cX22_init.data.toList.drop 0 = dktX22_init_0 := by decide +kernel
theorem dX22_init_0 : decode cX22_init 0 = .ok (.aload_n 0, 1) := dk_42 (dk_at dksX22_init_0 0 rfl rfl)
theorem dX22_init_1 : decode cX22_init 1 = .ok (.aload_n 1, 1) := dk_43 (dk_at dksX22_init_0 1 rfl rfl)
theorem dX22_init_2 : decode cX22_init 2 = .ok (.invokespecial 1, 3) := dk_183 0 1 (dk_at dksX22_init_0 2 rfl rfl)
theorem dX22_init_5 : decode cX22_init 5 = .ok (.return_, 1) := dk_177 (dk_at dksX22_init_0 5 rfl rfl)
abbrev cX22_with : ByteArray := prog_22_method_2_code
def yX22_with : MethodName := ⟨RX22, "with", "(II)I"⟩
def dkwX22_with_0 : List UInt8 := [27, 28, 160, 0, 7, 4, 167, 0, 4, 3, 172]
abbrev dktX22_with_0 : List UInt8 := dkwX22_with_0 ++ []
theorem dksX22_with_0 : cX22_with.data.toList.drop 0 = dktX22_with_0 := by decide +kernel
theorem dX22_with_0 : decode cX22_with 0 = .ok (.iload_n 1, 1) := dk_27 (dk_at dksX22_with_0 0 rfl rfl)
theorem dX22_with_1 : decode cX22_with 1 = .ok (.iload_n 2, 1) := dk_28 (dk_at dksX22_with_0 1 rfl rfl)
theorem dX22_with_2 : decode cX22_with 2 = .ok (.if_icmp .ne 7, 3) := dk_160 0 7 (dk_at dksX22_with_0 2 rfl rfl)
theorem dX22_with_5 : decode cX22_with 5 = .ok (.iconst 1, 1) := dk_4 (dk_at dksX22_with_0 5 rfl rfl)
theorem dX22_with_6 : decode cX22_with 6 = .ok (.goto 4, 3) := dk_167 0 4 (dk_at dksX22_with_0 6 rfl rfl)
theorem dX22_with_9 : decode cX22_with 9 = .ok (.iconst 0, 1) := dk_3 (dk_at dksX22_with_0 9 rfl rfl)
theorem dX22_with_10 : decode cX22_with 10 = .ok (.ireturn, 1) := dk_172 (dk_at dksX22_with_0 10 rfl rfl)
theorem q158 : (Jvm.Cond.initialized "LiarsCock$Same") ∈ lw_all := lw_g (lw_at lw_m1 40 rfl) rfl
theorem q796 : (Jvm.Cond.selects "LiarsCock$Same" ({ cls := "java/lang/Object", name := "getClass", desc := "()Ljava/lang/Class;" } : Jvm.MethodName) ({ cls := "java/lang/Object", name := "getClass", desc := "()Ljava/lang/Class;" } : Jvm.MethodName)) ∈ lw_all := lw_g (lw_at lw_m3 198 rfl) rfl
theorem q987 : (Jvm.Cond.instantiable "LiarsCock$Same" (1 : Nat)) ∈ lw_all := lw_g (lw_at lw_m4 149 rfl) rfl
theorem q989 : (Jvm.Cond.instanceMethod ({ cls := "LiarsCock$Same", name := "<init>", desc := "(LLiarsCock$Expression;)V" } : Jvm.MethodName)) ∈ lw_all := lw_g (lw_at lw_m4 151 rfl) rfl
theorem q990 : (Jvm.Cond.code ({ cls := "LiarsCock$Same", name := "<init>", desc := "(LLiarsCock$Expression;)V" } : Jvm.MethodName) prog_22_method_1_code (2 : Nat) (Option.none : Option Jvm.ClassFile.FieldType)) ∈ lw_all := lw_g (lw_at lw_m4 152 rfl) rfl
theorem q991 : (Jvm.Cond.methodLink "LiarsCock$Same" (1 : Nat) ({ cls := "LiarsCock$Link", name := "<init>", desc := "(LLiarsCock$Expression;)V" } : Jvm.MethodName)) ∈ lw_all := lw_g (lw_at lw_m4 153 rfl) rfl
theorem q992 : (Jvm.Cond.laysFinal "LiarsCock$Same" "LiarsCock$Link" "e" "LLiarsCock$Expression;") ∈ lw_all := lw_g (lw_at lw_m4 154 rfl) rfl
theorem q993 : (Jvm.Cond.superclass "LiarsCock$Same" "LiarsCock$Link") ∈ lw_all := lw_g (lw_at lw_m4 155 rfl) rfl
theorem q1055 : (Jvm.Cond.selects "LiarsCock$Same" ({ cls := "LiarsCock$Link", name := "on", desc := "(ILLiarsCock$Facts;)I" } : Jvm.MethodName) ({ cls := "LiarsCock$Link", name := "on", desc := "(ILLiarsCock$Facts;)I" } : Jvm.MethodName)) ∈ lw_all := lw_g (lw_at lw_m4 217 rfl) rfl
theorem q1077 : (Jvm.Cond.selects "LiarsCock$Same" ({ cls := "LiarsCock$Link", name := "with", desc := "(II)I" } : Jvm.MethodName) ({ cls := "LiarsCock$Same", name := "with", desc := "(II)I" } : Jvm.MethodName)) ∈ lw_all := lw_g (lw_at lw_m4 239 rfl) rfl
theorem q1078 : (Jvm.Cond.instanceMethod ({ cls := "LiarsCock$Same", name := "with", desc := "(II)I" } : Jvm.MethodName)) ∈ lw_all := lw_g (lw_at lw_m5 0 rfl) rfl
theorem q1079 : (Jvm.Cond.code ({ cls := "LiarsCock$Same", name := "with", desc := "(II)I" } : Jvm.MethodName) prog_22_method_2_code (3 : Nat) (Option.some Jvm.ClassFile.FieldType.int)) ∈ lw_all := lw_g (lw_at lw_m5 1 rfl) rfl
theorem q2250 : (Jvm.Cond.castable "LiarsCock$Same" "LiarsCock$Link") ∈ lw_tbl := lw_at lw_m9 212 rfl
theorem q2279 : (Jvm.Cond.castable "LiarsCock$Same" "java/lang/Object") ∈ lw_tbl := lw_at lw_m10 1 rfl
theorem in_X22 : ∀ w ∈ wsX220, w ∈ lw_all := lw_in wsX220 [992] (by decide +kernel) (by decide +kernel)

/-! LiarsCock$And -/
set_option maxRecDepth 100000
def RX23 : String := "LiarsCock$And"
def TX23 : u_T := fun k => match k with
  | _ => ("LiarsCock$Link", "e", "LLiarsCock$Expression;", true)
def tyX23 : Nat → FieldType := fun k => match k with
  | _ => .object "LiarsCock$Expression"
abbrev wsX230 : List Cond := u_ws RX23 TX23 1
theorem nmX23 : ∀ a, a < 1 → ∀ b, b < 1 → a ≠ b → (TX23 a).2.1 ≠ (TX23 b).2.1 := by decide +kernel
theorem tyX23_ok : ∀ k, k < 1 → parseFieldDescriptor (TX23 k).2.2.1 = some (tyX23 k) := by decide +kernel
abbrev cX23_init : ByteArray := prog_2_method_1_code
def yX23_init : MethodName := ⟨RX23, "<init>", "(LLiarsCock$Expression;)V"⟩
def dkwX23_init_0 : List UInt8 := [42, 43, 183, 0, 1, 177]
abbrev dktX23_init_0 : List UInt8 := dkwX23_init_0 ++ []
theorem dksX23_init_0 : cX23_init.data.toList.drop 0 = dktX23_init_0 := by decide +kernel
theorem dX23_init_0 : decode cX23_init 0 = .ok (.aload_n 0, 1) := dk_42 (dk_at dksX23_init_0 0 rfl rfl)
theorem dX23_init_1 : decode cX23_init 1 = .ok (.aload_n 1, 1) := dk_43 (dk_at dksX23_init_0 1 rfl rfl)
theorem dX23_init_2 : decode cX23_init 2 = .ok (.invokespecial 1, 3) := dk_183 0 1 (dk_at dksX23_init_0 2 rfl rfl)
theorem dX23_init_5 : decode cX23_init 5 = .ok (.return_, 1) := dk_177 (dk_at dksX23_init_0 5 rfl rfl)
abbrev cX23_with : ByteArray := prog_2_method_2_code
def yX23_with : MethodName := ⟨RX23, "with", "(II)I"⟩
def dkwX23_with_0 : List UInt8 := [27, 153, 0, 11, 28, 153, 0, 7, 4, 167, 0, 4, 3, 172]
abbrev dktX23_with_0 : List UInt8 := dkwX23_with_0 ++ []
theorem dksX23_with_0 : cX23_with.data.toList.drop 0 = dktX23_with_0 := by decide +kernel
theorem dX23_with_0 : decode cX23_with 0 = .ok (.iload_n 1, 1) := dk_27 (dk_at dksX23_with_0 0 rfl rfl)
theorem dX23_with_1 : decode cX23_with 1 = .ok (.ifCond .eq 11, 3) := dk_153 0 11 (dk_at dksX23_with_0 1 rfl rfl)
theorem dX23_with_4 : decode cX23_with 4 = .ok (.iload_n 2, 1) := dk_28 (dk_at dksX23_with_0 4 rfl rfl)
theorem dX23_with_5 : decode cX23_with 5 = .ok (.ifCond .eq 7, 3) := dk_153 0 7 (dk_at dksX23_with_0 5 rfl rfl)
theorem dX23_with_8 : decode cX23_with 8 = .ok (.iconst 1, 1) := dk_4 (dk_at dksX23_with_0 8 rfl rfl)
theorem dX23_with_9 : decode cX23_with 9 = .ok (.goto 4, 3) := dk_167 0 4 (dk_at dksX23_with_0 9 rfl rfl)
theorem dX23_with_12 : decode cX23_with 12 = .ok (.iconst 0, 1) := dk_3 (dk_at dksX23_with_0 12 rfl rfl)
theorem dX23_with_13 : decode cX23_with 13 = .ok (.ireturn, 1) := dk_172 (dk_at dksX23_with_0 13 rfl rfl)
theorem q159 : (Jvm.Cond.initialized "LiarsCock$And") ∈ lw_all := lw_g (lw_at lw_m1 41 rfl) rfl
theorem q778 : (Jvm.Cond.selects "LiarsCock$And" ({ cls := "java/lang/Object", name := "getClass", desc := "()Ljava/lang/Class;" } : Jvm.MethodName) ({ cls := "java/lang/Object", name := "getClass", desc := "()Ljava/lang/Class;" } : Jvm.MethodName)) ∈ lw_all := lw_g (lw_at lw_m3 180 rfl) rfl
theorem q995 : (Jvm.Cond.instantiable "LiarsCock$And" (1 : Nat)) ∈ lw_all := lw_g (lw_at lw_m4 157 rfl) rfl
theorem q997 : (Jvm.Cond.instanceMethod ({ cls := "LiarsCock$And", name := "<init>", desc := "(LLiarsCock$Expression;)V" } : Jvm.MethodName)) ∈ lw_all := lw_g (lw_at lw_m4 159 rfl) rfl
theorem q998 : (Jvm.Cond.code ({ cls := "LiarsCock$And", name := "<init>", desc := "(LLiarsCock$Expression;)V" } : Jvm.MethodName) prog_2_method_1_code (2 : Nat) (Option.none : Option Jvm.ClassFile.FieldType)) ∈ lw_all := lw_g (lw_at lw_m4 160 rfl) rfl
theorem q999 : (Jvm.Cond.methodLink "LiarsCock$And" (1 : Nat) ({ cls := "LiarsCock$Link", name := "<init>", desc := "(LLiarsCock$Expression;)V" } : Jvm.MethodName)) ∈ lw_all := lw_g (lw_at lw_m4 161 rfl) rfl
theorem q1000 : (Jvm.Cond.laysFinal "LiarsCock$And" "LiarsCock$Link" "e" "LLiarsCock$Expression;") ∈ lw_all := lw_g (lw_at lw_m4 162 rfl) rfl
theorem q1001 : (Jvm.Cond.superclass "LiarsCock$And" "LiarsCock$Link") ∈ lw_all := lw_g (lw_at lw_m4 163 rfl) rfl
theorem q1050 : (Jvm.Cond.selects "LiarsCock$And" ({ cls := "LiarsCock$Link", name := "on", desc := "(ILLiarsCock$Facts;)I" } : Jvm.MethodName) ({ cls := "LiarsCock$Link", name := "on", desc := "(ILLiarsCock$Facts;)I" } : Jvm.MethodName)) ∈ lw_all := lw_g (lw_at lw_m4 212 rfl) rfl
theorem q1062 : (Jvm.Cond.selects "LiarsCock$And" ({ cls := "LiarsCock$Link", name := "with", desc := "(II)I" } : Jvm.MethodName) ({ cls := "LiarsCock$And", name := "with", desc := "(II)I" } : Jvm.MethodName)) ∈ lw_all := lw_g (lw_at lw_m4 224 rfl) rfl
theorem q1063 : (Jvm.Cond.instanceMethod ({ cls := "LiarsCock$And", name := "with", desc := "(II)I" } : Jvm.MethodName)) ∈ lw_all := lw_g (lw_at lw_m4 225 rfl) rfl
theorem q1064 : (Jvm.Cond.code ({ cls := "LiarsCock$And", name := "with", desc := "(II)I" } : Jvm.MethodName) prog_2_method_2_code (3 : Nat) (Option.some Jvm.ClassFile.FieldType.int)) ∈ lw_all := lw_g (lw_at lw_m4 226 rfl) rfl
theorem q2245 : (Jvm.Cond.castable "LiarsCock$And" "LiarsCock$Link") ∈ lw_tbl := lw_at lw_m9 207 rfl
theorem q2280 : (Jvm.Cond.castable "LiarsCock$And" "java/lang/Object") ∈ lw_tbl := lw_at lw_m10 2 rfl
theorem in_X23 : ∀ w ∈ wsX230, w ∈ lw_all := lw_in wsX230 [1000] (by decide +kernel) (by decide +kernel)

/-! LiarsCock$Or -/
set_option maxRecDepth 100000
def RX24 : String := "LiarsCock$Or"
def TX24 : u_T := fun k => match k with
  | _ => ("LiarsCock$Link", "e", "LLiarsCock$Expression;", true)
def tyX24 : Nat → FieldType := fun k => match k with
  | _ => .object "LiarsCock$Expression"
abbrev wsX240 : List Cond := u_ws RX24 TX24 1
theorem nmX24 : ∀ a, a < 1 → ∀ b, b < 1 → a ≠ b → (TX24 a).2.1 ≠ (TX24 b).2.1 := by decide +kernel
theorem tyX24_ok : ∀ k, k < 1 → parseFieldDescriptor (TX24 k).2.2.1 = some (tyX24 k) := by decide +kernel
abbrev cX24_init : ByteArray := prog_16_method_1_code
def yX24_init : MethodName := ⟨RX24, "<init>", "(LLiarsCock$Expression;)V"⟩
def dkwX24_init_0 : List UInt8 := [42, 43, 183, 0, 1, 177]
abbrev dktX24_init_0 : List UInt8 := dkwX24_init_0 ++ []
theorem dksX24_init_0 : cX24_init.data.toList.drop 0 = dktX24_init_0 := by decide +kernel
theorem dX24_init_0 : decode cX24_init 0 = .ok (.aload_n 0, 1) := dk_42 (dk_at dksX24_init_0 0 rfl rfl)
theorem dX24_init_1 : decode cX24_init 1 = .ok (.aload_n 1, 1) := dk_43 (dk_at dksX24_init_0 1 rfl rfl)
theorem dX24_init_2 : decode cX24_init 2 = .ok (.invokespecial 1, 3) := dk_183 0 1 (dk_at dksX24_init_0 2 rfl rfl)
theorem dX24_init_5 : decode cX24_init 5 = .ok (.return_, 1) := dk_177 (dk_at dksX24_init_0 5 rfl rfl)
abbrev cX24_with : ByteArray := prog_16_method_2_code
def yX24_with : MethodName := ⟨RX24, "with", "(II)I"⟩
def dkwX24_with_0 : List UInt8 := [27, 154, 0, 7, 28, 153, 0, 7, 4, 167, 0, 4, 3, 172]
abbrev dktX24_with_0 : List UInt8 := dkwX24_with_0 ++ []
theorem dksX24_with_0 : cX24_with.data.toList.drop 0 = dktX24_with_0 := by decide +kernel
theorem dX24_with_0 : decode cX24_with 0 = .ok (.iload_n 1, 1) := dk_27 (dk_at dksX24_with_0 0 rfl rfl)
theorem dX24_with_1 : decode cX24_with 1 = .ok (.ifCond .ne 7, 3) := dk_154 0 7 (dk_at dksX24_with_0 1 rfl rfl)
theorem dX24_with_4 : decode cX24_with 4 = .ok (.iload_n 2, 1) := dk_28 (dk_at dksX24_with_0 4 rfl rfl)
theorem dX24_with_5 : decode cX24_with 5 = .ok (.ifCond .eq 7, 3) := dk_153 0 7 (dk_at dksX24_with_0 5 rfl rfl)
theorem dX24_with_8 : decode cX24_with 8 = .ok (.iconst 1, 1) := dk_4 (dk_at dksX24_with_0 8 rfl rfl)
theorem dX24_with_9 : decode cX24_with 9 = .ok (.goto 4, 3) := dk_167 0 4 (dk_at dksX24_with_0 9 rfl rfl)
theorem dX24_with_12 : decode cX24_with 12 = .ok (.iconst 0, 1) := dk_3 (dk_at dksX24_with_0 12 rfl rfl)
theorem dX24_with_13 : decode cX24_with 13 = .ok (.ireturn, 1) := dk_172 (dk_at dksX24_with_0 13 rfl rfl)
theorem q160 : (Jvm.Cond.initialized "LiarsCock$Or") ∈ lw_all := lw_g (lw_at lw_m1 42 rfl) rfl
theorem q790 : (Jvm.Cond.selects "LiarsCock$Or" ({ cls := "java/lang/Object", name := "getClass", desc := "()Ljava/lang/Class;" } : Jvm.MethodName) ({ cls := "java/lang/Object", name := "getClass", desc := "()Ljava/lang/Class;" } : Jvm.MethodName)) ∈ lw_all := lw_g (lw_at lw_m3 192 rfl) rfl
theorem q1003 : (Jvm.Cond.instantiable "LiarsCock$Or" (1 : Nat)) ∈ lw_all := lw_g (lw_at lw_m4 165 rfl) rfl
theorem q1005 : (Jvm.Cond.instanceMethod ({ cls := "LiarsCock$Or", name := "<init>", desc := "(LLiarsCock$Expression;)V" } : Jvm.MethodName)) ∈ lw_all := lw_g (lw_at lw_m4 167 rfl) rfl
theorem q1006 : (Jvm.Cond.code ({ cls := "LiarsCock$Or", name := "<init>", desc := "(LLiarsCock$Expression;)V" } : Jvm.MethodName) prog_16_method_1_code (2 : Nat) (Option.none : Option Jvm.ClassFile.FieldType)) ∈ lw_all := lw_g (lw_at lw_m4 168 rfl) rfl
theorem q1007 : (Jvm.Cond.methodLink "LiarsCock$Or" (1 : Nat) ({ cls := "LiarsCock$Link", name := "<init>", desc := "(LLiarsCock$Expression;)V" } : Jvm.MethodName)) ∈ lw_all := lw_g (lw_at lw_m4 169 rfl) rfl
theorem q1008 : (Jvm.Cond.laysFinal "LiarsCock$Or" "LiarsCock$Link" "e" "LLiarsCock$Expression;") ∈ lw_all := lw_g (lw_at lw_m4 170 rfl) rfl
theorem q1009 : (Jvm.Cond.superclass "LiarsCock$Or" "LiarsCock$Link") ∈ lw_all := lw_g (lw_at lw_m4 171 rfl) rfl
theorem q1053 : (Jvm.Cond.selects "LiarsCock$Or" ({ cls := "LiarsCock$Link", name := "on", desc := "(ILLiarsCock$Facts;)I" } : Jvm.MethodName) ({ cls := "LiarsCock$Link", name := "on", desc := "(ILLiarsCock$Facts;)I" } : Jvm.MethodName)) ∈ lw_all := lw_g (lw_at lw_m4 215 rfl) rfl
theorem q1071 : (Jvm.Cond.selects "LiarsCock$Or" ({ cls := "LiarsCock$Link", name := "with", desc := "(II)I" } : Jvm.MethodName) ({ cls := "LiarsCock$Or", name := "with", desc := "(II)I" } : Jvm.MethodName)) ∈ lw_all := lw_g (lw_at lw_m4 233 rfl) rfl
theorem q1072 : (Jvm.Cond.instanceMethod ({ cls := "LiarsCock$Or", name := "with", desc := "(II)I" } : Jvm.MethodName)) ∈ lw_all := lw_g (lw_at lw_m4 234 rfl) rfl
theorem q1073 : (Jvm.Cond.code ({ cls := "LiarsCock$Or", name := "with", desc := "(II)I" } : Jvm.MethodName) prog_16_method_2_code (3 : Nat) (Option.some Jvm.ClassFile.FieldType.int)) ∈ lw_all := lw_g (lw_at lw_m4 235 rfl) rfl
theorem q2248 : (Jvm.Cond.castable "LiarsCock$Or" "LiarsCock$Link") ∈ lw_tbl := lw_at lw_m9 210 rfl
theorem q2281 : (Jvm.Cond.castable "LiarsCock$Or" "java/lang/Object") ∈ lw_tbl := lw_at lw_m10 3 rfl
theorem in_X24 : ∀ w ∈ wsX240, w ∈ lw_all := lw_in wsX240 [1008] (by decide +kernel) (by decide +kernel)

/-! LiarsCock$Saying -/
set_option maxRecDepth 100000
def RX25 : String := "LiarsCock$Saying"
def TX25 : u_T := fun k => match k with
  | 0 => ("LiarsCock$Saying", "person", "I", true)
  | 1 => ("LiarsCock$Saying", "minute", "I", true)
  | 2 => ("LiarsCock$Saying", "so", "J", true)
  | _ => ("LiarsCock$Saying", "lie", "[J", true)
def tyX25 : Nat → FieldType := fun k => match k with
  | 0 => .int
  | 1 => .int
  | 2 => .long
  | _ => .array .long
abbrev wsX250 : List Cond := u_ws RX25 TX25 4
theorem nmX25 : ∀ a, a < 4 → ∀ b, b < 4 → a ≠ b → (TX25 a).2.1 ≠ (TX25 b).2.1 := by decide +kernel
theorem tyX25_ok : ∀ k, k < 4 → parseFieldDescriptor (TX25 k).2.2.1 = some (tyX25 k) := by decide +kernel
abbrev cX25_init : ByteArray := prog_23_method_1_code
def yX25_init : MethodName := ⟨RX25, "<init>", "(LLiarsCock$Parish;IILLiarsCock$Expression;)V"⟩
def dkwX25_init_4 : List UInt8 := [180, 0, 48, 182, 0, 51, 80, 177]
abbrev dktX25_init_4 : List UInt8 := dkwX25_init_4 ++ []
def dkwX25_init_3 : List UInt8 := [127, 80, 42, 180, 0, 7, 4, 43, 42, 180, 0, 26, 43, 180, 0, 36, 28, 182, 0, 40, 192, 0, 46]
abbrev dktX25_init_3 : List UInt8 := dkwX25_init_3 ++ dktX25_init_4
def dkwX25_init_2 : List UInt8 := [180, 0, 7, 3, 43, 187, 0, 29, 89, 4, 183, 0, 31, 182, 0, 20, 42, 180, 0, 26, 20, 0, 34, 131]
abbrev dktX25_init_2 : List UInt8 := dkwX25_init_2 ++ dktX25_init_3
def dkwX25_init_1 : List UInt8 := [199, 0, 7, 9, 167, 0, 9, 43, 25, 4, 182, 0, 20, 181, 0, 26, 25, 4, 199, 0, 4, 177, 42]
abbrev dktX25_init_1 : List UInt8 := dkwX25_init_1 ++ dktX25_init_2
def dkwX25_init_0 : List UInt8 := [42, 183, 0, 1, 42, 5, 188, 11, 181, 0, 7, 42, 28, 181, 0, 13, 42, 29, 181, 0, 17, 42, 25, 4]
abbrev dktX25_init_0 : List UInt8 := dkwX25_init_0 ++ dktX25_init_1
theorem dksX25_init_0 : cX25_init.data.toList.drop 0 = dktX25_init_0 := by decide +kernel
theorem dksX25_init_1 : cX25_init.data.toList.drop 24 = dktX25_init_1 := dk_seg dksX25_init_0 24 rfl rfl
theorem dksX25_init_2 : cX25_init.data.toList.drop 47 = dktX25_init_2 := dk_seg dksX25_init_1 23 rfl rfl
theorem dksX25_init_3 : cX25_init.data.toList.drop 71 = dktX25_init_3 := dk_seg dksX25_init_2 24 rfl rfl
theorem dksX25_init_4 : cX25_init.data.toList.drop 94 = dktX25_init_4 := dk_seg dksX25_init_3 23 rfl rfl
theorem dX25_init_0 : decode cX25_init 0 = .ok (.aload_n 0, 1) := dk_42 (dk_at dksX25_init_0 0 rfl rfl)
theorem dX25_init_1 : decode cX25_init 1 = .ok (.invokespecial 1, 3) := dk_183 0 1 (dk_at dksX25_init_0 1 rfl rfl)
theorem dX25_init_4 : decode cX25_init 4 = .ok (.aload_n 0, 1) := dk_42 (dk_at dksX25_init_0 4 rfl rfl)
theorem dX25_init_5 : decode cX25_init 5 = .ok (.iconst 2, 1) := dk_5 (dk_at dksX25_init_0 5 rfl rfl)
theorem dX25_init_6 : decode cX25_init 6 = .ok (.newarray .long, 2) := dk_188_11 (dk_at dksX25_init_0 6 rfl rfl)
theorem dX25_init_8 : decode cX25_init 8 = .ok (.putfield 7, 3) := dk_181 0 7 (dk_at dksX25_init_0 8 rfl rfl)
theorem dX25_init_11 : decode cX25_init 11 = .ok (.aload_n 0, 1) := dk_42 (dk_at dksX25_init_0 11 rfl rfl)
theorem dX25_init_12 : decode cX25_init 12 = .ok (.iload_n 2, 1) := dk_28 (dk_at dksX25_init_0 12 rfl rfl)
theorem dX25_init_13 : decode cX25_init 13 = .ok (.putfield 13, 3) := dk_181 0 13 (dk_at dksX25_init_0 13 rfl rfl)
theorem dX25_init_16 : decode cX25_init 16 = .ok (.aload_n 0, 1) := dk_42 (dk_at dksX25_init_0 16 rfl rfl)
theorem dX25_init_17 : decode cX25_init 17 = .ok (.iload_n 3, 1) := dk_29 (dk_at dksX25_init_0 17 rfl rfl)
theorem dX25_init_18 : decode cX25_init 18 = .ok (.putfield 17, 3) := dk_181 0 17 (dk_at dksX25_init_0 18 rfl rfl)
theorem dX25_init_21 : decode cX25_init 21 = .ok (.aload_n 0, 1) := dk_42 (dk_at dksX25_init_0 21 rfl rfl)
theorem dX25_init_22 : decode cX25_init 22 = .ok (.aload 4, 2) := dk_25 4 (dk_at dksX25_init_0 22 rfl rfl)
theorem dX25_init_24 : decode cX25_init 24 = .ok (.ifnonnull 7, 3) := dk_199 0 7 (dk_at dksX25_init_1 0 rfl rfl)
theorem dX25_init_27 : decode cX25_init 27 = .ok (.lconst 0, 1) := dk_9 (dk_at dksX25_init_1 3 rfl rfl)
theorem dX25_init_28 : decode cX25_init 28 = .ok (.goto 9, 3) := dk_167 0 9 (dk_at dksX25_init_1 4 rfl rfl)
theorem dX25_init_31 : decode cX25_init 31 = .ok (.aload_n 1, 1) := dk_43 (dk_at dksX25_init_1 7 rfl rfl)
theorem dX25_init_32 : decode cX25_init 32 = .ok (.aload 4, 2) := dk_25 4 (dk_at dksX25_init_1 8 rfl rfl)
theorem dX25_init_34 : decode cX25_init 34 = .ok (.invokevirtual 20, 3) := dk_182 0 20 (dk_at dksX25_init_1 10 rfl rfl)
theorem dX25_init_37 : decode cX25_init 37 = .ok (.putfield 26, 3) := dk_181 0 26 (dk_at dksX25_init_1 13 rfl rfl)
theorem dX25_init_40 : decode cX25_init 40 = .ok (.aload 4, 2) := dk_25 4 (dk_at dksX25_init_1 16 rfl rfl)
theorem dX25_init_42 : decode cX25_init 42 = .ok (.ifnonnull 4, 3) := dk_199 0 4 (dk_at dksX25_init_1 18 rfl rfl)
theorem dX25_init_45 : decode cX25_init 45 = .ok (.return_, 1) := dk_177 (dk_at dksX25_init_1 21 rfl rfl)
theorem dX25_init_46 : decode cX25_init 46 = .ok (.aload_n 0, 1) := dk_42 (dk_at dksX25_init_1 22 rfl rfl)
theorem dX25_init_47 : decode cX25_init 47 = .ok (.getfield 7, 3) := dk_180 0 7 (dk_at dksX25_init_2 0 rfl rfl)
theorem dX25_init_50 : decode cX25_init 50 = .ok (.iconst 0, 1) := dk_3 (dk_at dksX25_init_2 3 rfl rfl)
theorem dX25_init_51 : decode cX25_init 51 = .ok (.aload_n 1, 1) := dk_43 (dk_at dksX25_init_2 4 rfl rfl)
theorem dX25_init_52 : decode cX25_init 52 = .ok (.new 29, 3) := dk_187 0 29 (dk_at dksX25_init_2 5 rfl rfl)
theorem dX25_init_55 : decode cX25_init 55 = .ok (.dup, 1) := dk_89 (dk_at dksX25_init_2 8 rfl rfl)
theorem dX25_init_56 : decode cX25_init 56 = .ok (.iconst 1, 1) := dk_4 (dk_at dksX25_init_2 9 rfl rfl)
theorem dX25_init_57 : decode cX25_init 57 = .ok (.invokespecial 31, 3) := dk_183 0 31 (dk_at dksX25_init_2 10 rfl rfl)
theorem dX25_init_60 : decode cX25_init 60 = .ok (.invokevirtual 20, 3) := dk_182 0 20 (dk_at dksX25_init_2 13 rfl rfl)
theorem dX25_init_63 : decode cX25_init 63 = .ok (.aload_n 0, 1) := dk_42 (dk_at dksX25_init_2 16 rfl rfl)
theorem dX25_init_64 : decode cX25_init 64 = .ok (.getfield 26, 3) := dk_180 0 26 (dk_at dksX25_init_2 17 rfl rfl)
theorem dX25_init_67 : decode cX25_init 67 = .ok (.ldc2_w 34, 3) := dk_20 0 34 (dk_at dksX25_init_2 20 rfl rfl)
theorem dX25_init_70 : decode cX25_init 70 = .ok (.lxor, 1) := dk_131 (dk_at dksX25_init_2 23 rfl rfl)
theorem dX25_init_71 : decode cX25_init 71 = .ok (.land, 1) := dk_127 (dk_at dksX25_init_3 0 rfl rfl)
theorem dX25_init_72 : decode cX25_init 72 = .ok (.lastore, 1) := dk_80 (dk_at dksX25_init_3 1 rfl rfl)
theorem dX25_init_73 : decode cX25_init 73 = .ok (.aload_n 0, 1) := dk_42 (dk_at dksX25_init_3 2 rfl rfl)
theorem dX25_init_74 : decode cX25_init 74 = .ok (.getfield 7, 3) := dk_180 0 7 (dk_at dksX25_init_3 3 rfl rfl)
theorem dX25_init_77 : decode cX25_init 77 = .ok (.iconst 1, 1) := dk_4 (dk_at dksX25_init_3 6 rfl rfl)
theorem dX25_init_78 : decode cX25_init 78 = .ok (.aload_n 1, 1) := dk_43 (dk_at dksX25_init_3 7 rfl rfl)
theorem dX25_init_79 : decode cX25_init 79 = .ok (.aload_n 0, 1) := dk_42 (dk_at dksX25_init_3 8 rfl rfl)
theorem dX25_init_80 : decode cX25_init 80 = .ok (.getfield 26, 3) := dk_180 0 26 (dk_at dksX25_init_3 9 rfl rfl)
theorem dX25_init_83 : decode cX25_init 83 = .ok (.aload_n 1, 1) := dk_43 (dk_at dksX25_init_3 12 rfl rfl)
theorem dX25_init_84 : decode cX25_init 84 = .ok (.getfield 36, 3) := dk_180 0 36 (dk_at dksX25_init_3 13 rfl rfl)
theorem dX25_init_87 : decode cX25_init 87 = .ok (.iload_n 2, 1) := dk_28 (dk_at dksX25_init_3 16 rfl rfl)
theorem dX25_init_88 : decode cX25_init 88 = .ok (.invokevirtual 40, 3) := dk_182 0 40 (dk_at dksX25_init_3 17 rfl rfl)
theorem dX25_init_91 : decode cX25_init 91 = .ok (.checkcast 46, 3) := dk_192 0 46 (dk_at dksX25_init_3 20 rfl rfl)
theorem dX25_init_94 : decode cX25_init 94 = .ok (.getfield 48, 3) := dk_180 0 48 (dk_at dksX25_init_4 0 rfl rfl)
theorem dX25_init_97 : decode cX25_init 97 = .ok (.invokevirtual 51, 3) := dk_182 0 51 (dk_at dksX25_init_4 3 rfl rfl)
theorem dX25_init_100 : decode cX25_init 100 = .ok (.lastore, 1) := dk_80 (dk_at dksX25_init_4 6 rfl rfl)
theorem dX25_init_101 : decode cX25_init 101 = .ok (.return_, 1) := dk_177 (dk_at dksX25_init_4 7 rfl rfl)
abbrev cX25_isLie : ByteArray := prog_23_method_2_code
def yX25_isLie : MethodName := ⟨RX25, "isLie", "(II)Z"⟩
def dkwX25_isLie_0 : List UInt8 := [42, 180, 0, 7, 27, 47, 28, 184, 0, 55, 172]
abbrev dktX25_isLie_0 : List UInt8 := dkwX25_isLie_0 ++ []
theorem dksX25_isLie_0 : cX25_isLie.data.toList.drop 0 = dktX25_isLie_0 := by decide +kernel
theorem dX25_isLie_0 : decode cX25_isLie 0 = .ok (.aload_n 0, 1) := dk_42 (dk_at dksX25_isLie_0 0 rfl rfl)
theorem dX25_isLie_1 : decode cX25_isLie 1 = .ok (.getfield 7, 3) := dk_180 0 7 (dk_at dksX25_isLie_0 1 rfl rfl)
theorem dX25_isLie_4 : decode cX25_isLie 4 = .ok (.iload_n 1, 1) := dk_27 (dk_at dksX25_isLie_0 4 rfl rfl)
theorem dX25_isLie_5 : decode cX25_isLie 5 = .ok (.laload, 1) := dk_47 (dk_at dksX25_isLie_0 5 rfl rfl)
theorem dX25_isLie_6 : decode cX25_isLie 6 = .ok (.iload_n 2, 1) := dk_28 (dk_at dksX25_isLie_0 6 rfl rfl)
theorem dX25_isLie_7 : decode cX25_isLie 7 = .ok (.invokestatic 55, 3) := dk_184 0 55 (dk_at dksX25_isLie_0 7 rfl rfl)
theorem dX25_isLie_10 : decode cX25_isLie 10 = .ok (.ireturn, 1) := dk_172 (dk_at dksX25_isLie_0 10 rfl rfl)
theorem q161 : (Jvm.Cond.initialized "LiarsCock$Saying") ∈ lw_all := lw_g (lw_at lw_m1 43 rfl) rfl
theorem q287 : (Jvm.Cond.fieldLink "LiarsCock$Saying" (36 : Nat) "LiarsCock$Parish" "people" "Ljava/util/ArrayList;") ∈ lw_all := lw_g (lw_at lw_m1 169 rfl) rfl
theorem q797 : (Jvm.Cond.selects "LiarsCock$Saying" ({ cls := "java/lang/Object", name := "getClass", desc := "()Ljava/lang/Class;" } : Jvm.MethodName) ({ cls := "java/lang/Object", name := "getClass", desc := "()Ljava/lang/Class;" } : Jvm.MethodName)) ∈ lw_all := lw_g (lw_at lw_m3 199 rfl) rfl
theorem q846 : (Jvm.Cond.fieldLink "LiarsCock$Saying" (48 : Nat) "LiarsCock$Person" "knows" "I") ∈ lw_all := lw_g (lw_at lw_m4 8 rfl) rfl
theorem q1128 : (Jvm.Cond.instantiable "LiarsCock$Saying" (4 : Nat)) ∈ lw_all := lw_g (lw_at lw_m5 50 rfl) rfl
theorem q1134 : (Jvm.Cond.instanceMethod ({ cls := "LiarsCock$Saying", name := "<init>", desc := "(LLiarsCock$Parish;IILLiarsCock$Expression;)V" } : Jvm.MethodName)) ∈ lw_all := lw_g (lw_at lw_m5 56 rfl) rfl
theorem q1135 : (Jvm.Cond.code ({ cls := "LiarsCock$Saying", name := "<init>", desc := "(LLiarsCock$Parish;IILLiarsCock$Expression;)V" } : Jvm.MethodName) prog_23_method_1_code (5 : Nat) (Option.none : Option Jvm.ClassFile.FieldType)) ∈ lw_all := lw_g (lw_at lw_m5 57 rfl) rfl
theorem q1136 : (Jvm.Cond.methodLink "LiarsCock$Saying" (1 : Nat) ({ cls := "java/lang/Object", name := "<init>", desc := "()V" } : Jvm.MethodName)) ∈ lw_all := lw_g (lw_at lw_m5 58 rfl) rfl
theorem q1137 : (Jvm.Cond.methodLink "LiarsCock$Saying" (20 : Nat) ({ cls := "LiarsCock$Parish", name := "so", desc := "(LLiarsCock$Expression;)J" } : Jvm.MethodName)) ∈ lw_all := lw_g (lw_at lw_m5 59 rfl) rfl
theorem q1138 : (Jvm.Cond.classLink "LiarsCock$Saying" (29 : Nat) "LiarsCock$Plain") ∈ lw_all := lw_g (lw_at lw_m5 60 rfl) rfl
theorem q1139 : (Jvm.Cond.methodLink "LiarsCock$Saying" (31 : Nat) ({ cls := "LiarsCock$Plain", name := "<init>", desc := "(I)V" } : Jvm.MethodName)) ∈ lw_all := lw_g (lw_at lw_m5 61 rfl) rfl
theorem q1140 : (Jvm.Cond.constantLong "LiarsCock$Saying" (34 : Nat) (-1 : Int64)) ∈ lw_all := lw_g (lw_at lw_m5 62 rfl) rfl
theorem q1141 : (Jvm.Cond.methodLink "LiarsCock$Saying" (40 : Nat) ({ cls := "java/util/ArrayList", name := "get", desc := "(I)Ljava/lang/Object;" } : Jvm.MethodName)) ∈ lw_all := lw_g (lw_at lw_m5 63 rfl) rfl
theorem q1142 : (Jvm.Cond.classLink "LiarsCock$Saying" (46 : Nat) "LiarsCock$Person") ∈ lw_all := lw_g (lw_at lw_m5 64 rfl) rfl
theorem q1143 : (Jvm.Cond.methodLink "LiarsCock$Saying" (51 : Nat) ({ cls := "LiarsCock$Parish", name := "known", desc := "(JI)J" } : Jvm.MethodName)) ∈ lw_all := lw_g (lw_at lw_m5 65 rfl) rfl
theorem q1151 : (Jvm.Cond.fieldLink "LiarsCock$Saying" (13 : Nat) "LiarsCock$Saying" "person" "I") ∈ lw_all := lw_g (lw_at lw_m5 73 rfl) rfl
theorem q1153 : (Jvm.Cond.fieldLink "LiarsCock$Saying" (17 : Nat) "LiarsCock$Saying" "minute" "I") ∈ lw_all := lw_g (lw_at lw_m5 75 rfl) rfl
theorem q1155 : (Jvm.Cond.fieldLink "LiarsCock$Saying" (26 : Nat) "LiarsCock$Saying" "so" "J") ∈ lw_all := lw_g (lw_at lw_m5 77 rfl) rfl
theorem q1157 : (Jvm.Cond.fieldLink "LiarsCock$Saying" (7 : Nat) "LiarsCock$Saying" "lie" "[J") ∈ lw_all := lw_g (lw_at lw_m5 79 rfl) rfl
theorem q1158 : (Jvm.Cond.laysFinal "LiarsCock$Saying" "LiarsCock$Saying" "person" "I") ∈ lw_all := lw_g (lw_at lw_m5 80 rfl) rfl
theorem q1159 : (Jvm.Cond.soleField "LiarsCock$Saying" "person") ∈ lw_all := lw_g (lw_at lw_m5 81 rfl) rfl
theorem q1160 : (Jvm.Cond.laysFinal "LiarsCock$Saying" "LiarsCock$Saying" "minute" "I") ∈ lw_all := lw_g (lw_at lw_m5 82 rfl) rfl
theorem q1161 : (Jvm.Cond.soleField "LiarsCock$Saying" "minute") ∈ lw_all := lw_g (lw_at lw_m5 83 rfl) rfl
theorem q1162 : (Jvm.Cond.laysFinal "LiarsCock$Saying" "LiarsCock$Saying" "so" "J") ∈ lw_all := lw_g (lw_at lw_m5 84 rfl) rfl
theorem q1163 : (Jvm.Cond.soleField "LiarsCock$Saying" "so") ∈ lw_all := lw_g (lw_at lw_m5 85 rfl) rfl
theorem q1164 : (Jvm.Cond.laysFinal "LiarsCock$Saying" "LiarsCock$Saying" "lie" "[J") ∈ lw_all := lw_g (lw_at lw_m5 86 rfl) rfl
theorem q1165 : (Jvm.Cond.soleField "LiarsCock$Saying" "lie") ∈ lw_all := lw_g (lw_at lw_m5 87 rfl) rfl
theorem q1166 : (Jvm.Cond.superclass "LiarsCock$Saying" "java/lang/Object") ∈ lw_all := lw_g (lw_at lw_m5 88 rfl) rfl
theorem q1189 : (Jvm.Cond.instanceMethod ({ cls := "LiarsCock$Saying", name := "isLie", desc := "(II)Z" } : Jvm.MethodName)) ∈ lw_all := lw_g (lw_at lw_m5 111 rfl) rfl
theorem q1190 : (Jvm.Cond.selects "LiarsCock$Saying" ({ cls := "LiarsCock$Saying", name := "isLie", desc := "(II)Z" } : Jvm.MethodName) ({ cls := "LiarsCock$Saying", name := "isLie", desc := "(II)Z" } : Jvm.MethodName)) ∈ lw_all := lw_g (lw_at lw_m5 112 rfl) rfl
theorem q1191 : (Jvm.Cond.code ({ cls := "LiarsCock$Saying", name := "isLie", desc := "(II)Z" } : Jvm.MethodName) prog_23_method_2_code (3 : Nat) (Option.some Jvm.ClassFile.FieldType.boolean)) ∈ lw_all := lw_g (lw_at lw_m5 113 rfl) rfl
theorem q1192 : (Jvm.Cond.methodLinkNest "LiarsCock$Saying" (55 : Nat) ({ cls := "LiarsCock", name := "has", desc := "(JI)Z" } : Jvm.MethodName) "LiarsCock") ∈ lw_tbl := lw_at lw_m5 114 rfl
theorem q2282 : (Jvm.Cond.castable "LiarsCock$Saying" "java/lang/Object") ∈ lw_tbl := lw_at lw_m10 4 rfl
theorem in_X25 : ∀ w ∈ wsX250, w ∈ lw_all := lw_in wsX250 [1158, 1160, 1162, 1164] (by decide +kernel) (by decide +kernel)

/-! LiarsCock$Look -/
set_option maxRecDepth 100000
def RX26 : String := "LiarsCock$Look"
def TX26 : u_T := fun k => match k with
  | 0 => ("LiarsCock$Look", "cock", "I", true)
  | 1 => ("LiarsCock$Look", "minute", "I", true)
  | 2 => ("LiarsCock$Look", "from", "I", true)
  | _ => ("LiarsCock$Look", "to", "I", true)
def tyX26 : Nat → FieldType := fun k => match k with
  | 0 => .int
  | 1 => .int
  | 2 => .int
  | _ => .int
abbrev wsX260 : List Cond := u_ws RX26 TX26 4
theorem nmX26 : ∀ a, a < 4 → ∀ b, b < 4 → a ≠ b → (TX26 a).2.1 ≠ (TX26 b).2.1 := by decide +kernel
theorem tyX26_ok : ∀ k, k < 4 → parseFieldDescriptor (TX26 k).2.2.1 = some (tyX26 k) := by decide +kernel
abbrev cX26_init : ByteArray := prog_11_method_1_code
def yX26_init : MethodName := ⟨RX26, "<init>", "(IIII)V"⟩
def dkwX26_init_1 : List UInt8 := [181, 0, 19, 177]
abbrev dktX26_init_1 : List UInt8 := dkwX26_init_1 ++ []
def dkwX26_init_0 : List UInt8 := [42, 183, 0, 1, 42, 27, 181, 0, 7, 42, 28, 181, 0, 13, 42, 29, 181, 0, 16, 42, 21, 4]
abbrev dktX26_init_0 : List UInt8 := dkwX26_init_0 ++ dktX26_init_1
theorem dksX26_init_0 : cX26_init.data.toList.drop 0 = dktX26_init_0 := by decide +kernel
theorem dksX26_init_1 : cX26_init.data.toList.drop 22 = dktX26_init_1 := dk_seg dksX26_init_0 22 rfl rfl
theorem dX26_init_0 : decode cX26_init 0 = .ok (.aload_n 0, 1) := dk_42 (dk_at dksX26_init_0 0 rfl rfl)
theorem dX26_init_1 : decode cX26_init 1 = .ok (.invokespecial 1, 3) := dk_183 0 1 (dk_at dksX26_init_0 1 rfl rfl)
theorem dX26_init_4 : decode cX26_init 4 = .ok (.aload_n 0, 1) := dk_42 (dk_at dksX26_init_0 4 rfl rfl)
theorem dX26_init_5 : decode cX26_init 5 = .ok (.iload_n 1, 1) := dk_27 (dk_at dksX26_init_0 5 rfl rfl)
theorem dX26_init_6 : decode cX26_init 6 = .ok (.putfield 7, 3) := dk_181 0 7 (dk_at dksX26_init_0 6 rfl rfl)
theorem dX26_init_9 : decode cX26_init 9 = .ok (.aload_n 0, 1) := dk_42 (dk_at dksX26_init_0 9 rfl rfl)
theorem dX26_init_10 : decode cX26_init 10 = .ok (.iload_n 2, 1) := dk_28 (dk_at dksX26_init_0 10 rfl rfl)
theorem dX26_init_11 : decode cX26_init 11 = .ok (.putfield 13, 3) := dk_181 0 13 (dk_at dksX26_init_0 11 rfl rfl)
theorem dX26_init_14 : decode cX26_init 14 = .ok (.aload_n 0, 1) := dk_42 (dk_at dksX26_init_0 14 rfl rfl)
theorem dX26_init_15 : decode cX26_init 15 = .ok (.iload_n 3, 1) := dk_29 (dk_at dksX26_init_0 15 rfl rfl)
theorem dX26_init_16 : decode cX26_init 16 = .ok (.putfield 16, 3) := dk_181 0 16 (dk_at dksX26_init_0 16 rfl rfl)
theorem dX26_init_19 : decode cX26_init 19 = .ok (.aload_n 0, 1) := dk_42 (dk_at dksX26_init_0 19 rfl rfl)
theorem dX26_init_20 : decode cX26_init 20 = .ok (.iload 4, 2) := dk_21 4 (dk_at dksX26_init_0 20 rfl rfl)
theorem dX26_init_22 : decode cX26_init 22 = .ok (.putfield 19, 3) := dk_181 0 19 (dk_at dksX26_init_1 0 rfl rfl)
theorem dX26_init_25 : decode cX26_init 25 = .ok (.return_, 1) := dk_177 (dk_at dksX26_init_1 3 rfl rfl)
abbrev cX26_holds : ByteArray := prog_11_method_2_code
def yX26_holds : MethodName := ⟨RX26, "holds", "(I)Z"⟩
def dkwX26_holds_0 : List UInt8 := [27, 42, 180, 0, 16, 42, 180, 0, 19, 184, 0, 22, 172]
abbrev dktX26_holds_0 : List UInt8 := dkwX26_holds_0 ++ []
theorem dksX26_holds_0 : cX26_holds.data.toList.drop 0 = dktX26_holds_0 := by decide +kernel
theorem dX26_holds_0 : decode cX26_holds 0 = .ok (.iload_n 1, 1) := dk_27 (dk_at dksX26_holds_0 0 rfl rfl)
theorem dX26_holds_1 : decode cX26_holds 1 = .ok (.aload_n 0, 1) := dk_42 (dk_at dksX26_holds_0 1 rfl rfl)
theorem dX26_holds_2 : decode cX26_holds 2 = .ok (.getfield 16, 3) := dk_180 0 16 (dk_at dksX26_holds_0 2 rfl rfl)
theorem dX26_holds_5 : decode cX26_holds 5 = .ok (.aload_n 0, 1) := dk_42 (dk_at dksX26_holds_0 5 rfl rfl)
theorem dX26_holds_6 : decode cX26_holds 6 = .ok (.getfield 19, 3) := dk_180 0 19 (dk_at dksX26_holds_0 6 rfl rfl)
theorem dX26_holds_9 : decode cX26_holds 9 = .ok (.invokestatic 22, 3) := dk_184 0 22 (dk_at dksX26_holds_0 9 rfl rfl)
theorem dX26_holds_12 : decode cX26_holds 12 = .ok (.ireturn, 1) := dk_172 (dk_at dksX26_holds_0 12 rfl rfl)
theorem q162 : (Jvm.Cond.initialized "LiarsCock$Look") ∈ lw_all := lw_g (lw_at lw_m1 44 rfl) rfl
theorem q785 : (Jvm.Cond.selects "LiarsCock$Look" ({ cls := "java/lang/Object", name := "getClass", desc := "()Ljava/lang/Class;" } : Jvm.MethodName) ({ cls := "java/lang/Object", name := "getClass", desc := "()Ljava/lang/Class;" } : Jvm.MethodName)) ∈ lw_all := lw_g (lw_at lw_m3 187 rfl) rfl
theorem q1213 : (Jvm.Cond.instantiable "LiarsCock$Look" (4 : Nat)) ∈ lw_all := lw_g (lw_at lw_m5 135 rfl) rfl
theorem q1215 : (Jvm.Cond.instanceMethod ({ cls := "LiarsCock$Look", name := "<init>", desc := "(IIII)V" } : Jvm.MethodName)) ∈ lw_all := lw_g (lw_at lw_m5 137 rfl) rfl
theorem q1216 : (Jvm.Cond.code ({ cls := "LiarsCock$Look", name := "<init>", desc := "(IIII)V" } : Jvm.MethodName) prog_11_method_1_code (5 : Nat) (Option.none : Option Jvm.ClassFile.FieldType)) ∈ lw_all := lw_g (lw_at lw_m5 138 rfl) rfl
theorem q1217 : (Jvm.Cond.methodLink "LiarsCock$Look" (1 : Nat) ({ cls := "java/lang/Object", name := "<init>", desc := "()V" } : Jvm.MethodName)) ∈ lw_all := lw_g (lw_at lw_m5 139 rfl) rfl
theorem q1218 : (Jvm.Cond.fieldLink "LiarsCock$Look" (7 : Nat) "LiarsCock$Look" "cock" "I") ∈ lw_all := lw_g (lw_at lw_m5 140 rfl) rfl
theorem q1220 : (Jvm.Cond.fieldLink "LiarsCock$Look" (13 : Nat) "LiarsCock$Look" "minute" "I") ∈ lw_all := lw_g (lw_at lw_m5 142 rfl) rfl
theorem q1222 : (Jvm.Cond.fieldLink "LiarsCock$Look" (16 : Nat) "LiarsCock$Look" "from" "I") ∈ lw_all := lw_g (lw_at lw_m5 144 rfl) rfl
theorem q1223 : (Jvm.Cond.fieldLink "LiarsCock$Look" (19 : Nat) "LiarsCock$Look" "to" "I") ∈ lw_all := lw_g (lw_at lw_m5 145 rfl) rfl
theorem q1224 : (Jvm.Cond.laysFinal "LiarsCock$Look" "LiarsCock$Look" "cock" "I") ∈ lw_all := lw_g (lw_at lw_m5 146 rfl) rfl
theorem q1225 : (Jvm.Cond.soleField "LiarsCock$Look" "cock") ∈ lw_all := lw_g (lw_at lw_m5 147 rfl) rfl
theorem q1226 : (Jvm.Cond.laysFinal "LiarsCock$Look" "LiarsCock$Look" "minute" "I") ∈ lw_all := lw_g (lw_at lw_m5 148 rfl) rfl
theorem q1227 : (Jvm.Cond.soleField "LiarsCock$Look" "minute") ∈ lw_all := lw_g (lw_at lw_m5 149 rfl) rfl
theorem q1228 : (Jvm.Cond.laysFinal "LiarsCock$Look" "LiarsCock$Look" "from" "I") ∈ lw_all := lw_g (lw_at lw_m5 150 rfl) rfl
theorem q1229 : (Jvm.Cond.soleField "LiarsCock$Look" "from") ∈ lw_all := lw_g (lw_at lw_m5 151 rfl) rfl
theorem q1230 : (Jvm.Cond.laysFinal "LiarsCock$Look" "LiarsCock$Look" "to" "I") ∈ lw_all := lw_g (lw_at lw_m5 152 rfl) rfl
theorem q1231 : (Jvm.Cond.soleField "LiarsCock$Look" "to") ∈ lw_all := lw_g (lw_at lw_m5 153 rfl) rfl
theorem q1232 : (Jvm.Cond.superclass "LiarsCock$Look" "java/lang/Object") ∈ lw_all := lw_g (lw_at lw_m5 154 rfl) rfl
theorem q1267 : (Jvm.Cond.instanceMethod ({ cls := "LiarsCock$Look", name := "holds", desc := "(I)Z" } : Jvm.MethodName)) ∈ lw_all := lw_g (lw_at lw_m5 189 rfl) rfl
theorem q1268 : (Jvm.Cond.selects "LiarsCock$Look" ({ cls := "LiarsCock$Look", name := "holds", desc := "(I)Z" } : Jvm.MethodName) ({ cls := "LiarsCock$Look", name := "holds", desc := "(I)Z" } : Jvm.MethodName)) ∈ lw_all := lw_g (lw_at lw_m5 190 rfl) rfl
theorem q1269 : (Jvm.Cond.code ({ cls := "LiarsCock$Look", name := "holds", desc := "(I)Z" } : Jvm.MethodName) prog_11_method_2_code (2 : Nat) (Option.some Jvm.ClassFile.FieldType.boolean)) ∈ lw_all := lw_g (lw_at lw_m5 191 rfl) rfl
theorem q1270 : (Jvm.Cond.methodLinkNest "LiarsCock$Look" (22 : Nat) ({ cls := "LiarsCock", name := "isIn", desc := "(III)Z" } : Jvm.MethodName) "LiarsCock") ∈ lw_tbl := lw_at lw_m5 192 rfl
theorem q2283 : (Jvm.Cond.castable "LiarsCock$Look" "java/lang/Object") ∈ lw_tbl := lw_at lw_m10 5 rfl
theorem in_X26 : ∀ w ∈ wsX260, w ∈ lw_all := lw_in wsX260 [1224, 1226, 1228, 1230] (by decide +kernel) (by decide +kernel)

/-! LiarsCock$Mark -/
set_option maxRecDepth 100000
def RX27 : String := "LiarsCock$Mark"
def TX27 : u_T := fun k => match k with
  | 0 => ("LiarsCock$Mark", "parish", "LLiarsCock$Parish;", true)
  | 1 => ("LiarsCock$Mark", "truth", "I", true)
  | 2 => ("LiarsCock$Mark", "sayings", "Ljava/util/ArrayList;", true)
  | 3 => ("LiarsCock$Mark", "offers", "Ljava/util/ArrayList;", true)
  | 4 => ("LiarsCock$Mark", "looks", "Ljava/util/ArrayList;", true)
  | _ => ("LiarsCock$Mark", "watches", "Ljava/util/ArrayList;", true)
def tyX27 : Nat → FieldType := fun k => match k with
  | 0 => .object "LiarsCock$Parish"
  | 1 => .int
  | 2 => .object "java/util/ArrayList"
  | 3 => .object "java/util/ArrayList"
  | 4 => .object "java/util/ArrayList"
  | _ => .object "java/util/ArrayList"
abbrev wsX270 : List Cond := u_ws RX27 TX27 6
theorem nmX27 : ∀ a, a < 6 → ∀ b, b < 6 → a ≠ b → (TX27 a).2.1 ≠ (TX27 b).2.1 := by decide +kernel
theorem tyX27_ok : ∀ k, k < 6 → parseFieldDescriptor (TX27 k).2.2.1 = some (tyX27 k) := by decide +kernel
abbrev cX27_init : ByteArray := prog_13_method_1_code
def yX27_init : MethodName := ⟨RX27, "<init>", "(LLiarsCock;)V"⟩
def dkwX27_init_2 : List UInt8 := [180, 0, 34, 184, 0, 25, 181, 0, 37, 42, 43, 180, 0, 38, 184, 0, 25, 181, 0, 41, 177]
abbrev dktX27_init_2 : List UInt8 := dkwX27_init_2 ++ []
def dkwX27_init_1 : List UInt8 := [180, 0, 21, 184, 0, 25, 181, 0, 29, 42, 43, 180, 0, 30, 184, 0, 25, 181, 0, 33, 42, 43]
abbrev dktX27_init_1 : List UInt8 := dkwX27_init_1 ++ dktX27_init_2
def dkwX27_init_0 : List UInt8 := [42, 183, 0, 1, 42, 43, 180, 0, 7, 181, 0, 13, 42, 43, 180, 0, 16, 181, 0, 20, 42, 43]
abbrev dktX27_init_0 : List UInt8 := dkwX27_init_0 ++ dktX27_init_1
theorem dksX27_init_0 : cX27_init.data.toList.drop 0 = dktX27_init_0 := by decide +kernel
theorem dksX27_init_1 : cX27_init.data.toList.drop 22 = dktX27_init_1 := dk_seg dksX27_init_0 22 rfl rfl
theorem dksX27_init_2 : cX27_init.data.toList.drop 44 = dktX27_init_2 := dk_seg dksX27_init_1 22 rfl rfl
theorem dX27_init_0 : decode cX27_init 0 = .ok (.aload_n 0, 1) := dk_42 (dk_at dksX27_init_0 0 rfl rfl)
theorem dX27_init_1 : decode cX27_init 1 = .ok (.invokespecial 1, 3) := dk_183 0 1 (dk_at dksX27_init_0 1 rfl rfl)
theorem dX27_init_4 : decode cX27_init 4 = .ok (.aload_n 0, 1) := dk_42 (dk_at dksX27_init_0 4 rfl rfl)
theorem dX27_init_5 : decode cX27_init 5 = .ok (.aload_n 1, 1) := dk_43 (dk_at dksX27_init_0 5 rfl rfl)
theorem dX27_init_6 : decode cX27_init 6 = .ok (.getfield 7, 3) := dk_180 0 7 (dk_at dksX27_init_0 6 rfl rfl)
theorem dX27_init_9 : decode cX27_init 9 = .ok (.putfield 13, 3) := dk_181 0 13 (dk_at dksX27_init_0 9 rfl rfl)
theorem dX27_init_12 : decode cX27_init 12 = .ok (.aload_n 0, 1) := dk_42 (dk_at dksX27_init_0 12 rfl rfl)
theorem dX27_init_13 : decode cX27_init 13 = .ok (.aload_n 1, 1) := dk_43 (dk_at dksX27_init_0 13 rfl rfl)
theorem dX27_init_14 : decode cX27_init 14 = .ok (.getfield 16, 3) := dk_180 0 16 (dk_at dksX27_init_0 14 rfl rfl)
theorem dX27_init_17 : decode cX27_init 17 = .ok (.putfield 20, 3) := dk_181 0 20 (dk_at dksX27_init_0 17 rfl rfl)
theorem dX27_init_20 : decode cX27_init 20 = .ok (.aload_n 0, 1) := dk_42 (dk_at dksX27_init_0 20 rfl rfl)
theorem dX27_init_21 : decode cX27_init 21 = .ok (.aload_n 1, 1) := dk_43 (dk_at dksX27_init_0 21 rfl rfl)
theorem dX27_init_22 : decode cX27_init 22 = .ok (.getfield 21, 3) := dk_180 0 21 (dk_at dksX27_init_1 0 rfl rfl)
theorem dX27_init_25 : decode cX27_init 25 = .ok (.invokestatic 25, 3) := dk_184 0 25 (dk_at dksX27_init_1 3 rfl rfl)
theorem dX27_init_28 : decode cX27_init 28 = .ok (.putfield 29, 3) := dk_181 0 29 (dk_at dksX27_init_1 6 rfl rfl)
theorem dX27_init_31 : decode cX27_init 31 = .ok (.aload_n 0, 1) := dk_42 (dk_at dksX27_init_1 9 rfl rfl)
theorem dX27_init_32 : decode cX27_init 32 = .ok (.aload_n 1, 1) := dk_43 (dk_at dksX27_init_1 10 rfl rfl)
theorem dX27_init_33 : decode cX27_init 33 = .ok (.getfield 30, 3) := dk_180 0 30 (dk_at dksX27_init_1 11 rfl rfl)
theorem dX27_init_36 : decode cX27_init 36 = .ok (.invokestatic 25, 3) := dk_184 0 25 (dk_at dksX27_init_1 14 rfl rfl)
theorem dX27_init_39 : decode cX27_init 39 = .ok (.putfield 33, 3) := dk_181 0 33 (dk_at dksX27_init_1 17 rfl rfl)
theorem dX27_init_42 : decode cX27_init 42 = .ok (.aload_n 0, 1) := dk_42 (dk_at dksX27_init_1 20 rfl rfl)
theorem dX27_init_43 : decode cX27_init 43 = .ok (.aload_n 1, 1) := dk_43 (dk_at dksX27_init_1 21 rfl rfl)
theorem dX27_init_44 : decode cX27_init 44 = .ok (.getfield 34, 3) := dk_180 0 34 (dk_at dksX27_init_2 0 rfl rfl)
theorem dX27_init_47 : decode cX27_init 47 = .ok (.invokestatic 25, 3) := dk_184 0 25 (dk_at dksX27_init_2 3 rfl rfl)
theorem dX27_init_50 : decode cX27_init 50 = .ok (.putfield 37, 3) := dk_181 0 37 (dk_at dksX27_init_2 6 rfl rfl)
theorem dX27_init_53 : decode cX27_init 53 = .ok (.aload_n 0, 1) := dk_42 (dk_at dksX27_init_2 9 rfl rfl)
theorem dX27_init_54 : decode cX27_init 54 = .ok (.aload_n 1, 1) := dk_43 (dk_at dksX27_init_2 10 rfl rfl)
theorem dX27_init_55 : decode cX27_init 55 = .ok (.getfield 38, 3) := dk_180 0 38 (dk_at dksX27_init_2 11 rfl rfl)
theorem dX27_init_58 : decode cX27_init 58 = .ok (.invokestatic 25, 3) := dk_184 0 25 (dk_at dksX27_init_2 14 rfl rfl)
theorem dX27_init_61 : decode cX27_init 61 = .ok (.putfield 41, 3) := dk_181 0 41 (dk_at dksX27_init_2 17 rfl rfl)
theorem dX27_init_64 : decode cX27_init 64 = .ok (.return_, 1) := dk_177 (dk_at dksX27_init_2 20 rfl rfl)
abbrev cX27_copied : ByteArray := prog_13_method_2_code
def yX27_copied : MethodName := ⟨RX27, "copied", "(Ljava/util/ArrayList;)Ljava/util/ArrayList;"⟩
def dkwX27_copied_1 : List UInt8 := [28, 182, 0, 51, 182, 0, 55, 87, 132, 2, 1, 167, 255, 235, 43, 176]
abbrev dktX27_copied_1 : List UInt8 := dkwX27_copied_1 ++ []
def dkwX27_copied_0 : List UInt8 := [187, 0, 42, 89, 42, 182, 0, 44, 183, 0, 48, 76, 3, 61, 28, 42, 182, 0, 44, 162, 0, 19, 43, 42]
abbrev dktX27_copied_0 : List UInt8 := dkwX27_copied_0 ++ dktX27_copied_1
theorem dksX27_copied_0 : cX27_copied.data.toList.drop 0 = dktX27_copied_0 := by decide +kernel
theorem dksX27_copied_1 : cX27_copied.data.toList.drop 24 = dktX27_copied_1 := dk_seg dksX27_copied_0 24 rfl rfl
theorem dX27_copied_0 : decode cX27_copied 0 = .ok (.new 42, 3) := dk_187 0 42 (dk_at dksX27_copied_0 0 rfl rfl)
theorem dX27_copied_3 : decode cX27_copied 3 = .ok (.dup, 1) := dk_89 (dk_at dksX27_copied_0 3 rfl rfl)
theorem dX27_copied_4 : decode cX27_copied 4 = .ok (.aload_n 0, 1) := dk_42 (dk_at dksX27_copied_0 4 rfl rfl)
theorem dX27_copied_5 : decode cX27_copied 5 = .ok (.invokevirtual 44, 3) := dk_182 0 44 (dk_at dksX27_copied_0 5 rfl rfl)
theorem dX27_copied_8 : decode cX27_copied 8 = .ok (.invokespecial 48, 3) := dk_183 0 48 (dk_at dksX27_copied_0 8 rfl rfl)
theorem dX27_copied_11 : decode cX27_copied 11 = .ok (.astore_n 1, 1) := dk_76 (dk_at dksX27_copied_0 11 rfl rfl)
theorem dX27_copied_12 : decode cX27_copied 12 = .ok (.iconst 0, 1) := dk_3 (dk_at dksX27_copied_0 12 rfl rfl)
theorem dX27_copied_13 : decode cX27_copied 13 = .ok (.istore_n 2, 1) := dk_61 (dk_at dksX27_copied_0 13 rfl rfl)
theorem dX27_copied_14 : decode cX27_copied 14 = .ok (.iload_n 2, 1) := dk_28 (dk_at dksX27_copied_0 14 rfl rfl)
theorem dX27_copied_15 : decode cX27_copied 15 = .ok (.aload_n 0, 1) := dk_42 (dk_at dksX27_copied_0 15 rfl rfl)
theorem dX27_copied_16 : decode cX27_copied 16 = .ok (.invokevirtual 44, 3) := dk_182 0 44 (dk_at dksX27_copied_0 16 rfl rfl)
theorem dX27_copied_19 : decode cX27_copied 19 = .ok (.if_icmp .ge 19, 3) := dk_162 0 19 (dk_at dksX27_copied_0 19 rfl rfl)
theorem dX27_copied_22 : decode cX27_copied 22 = .ok (.aload_n 1, 1) := dk_43 (dk_at dksX27_copied_0 22 rfl rfl)
theorem dX27_copied_23 : decode cX27_copied 23 = .ok (.aload_n 0, 1) := dk_42 (dk_at dksX27_copied_0 23 rfl rfl)
theorem dX27_copied_24 : decode cX27_copied 24 = .ok (.iload_n 2, 1) := dk_28 (dk_at dksX27_copied_1 0 rfl rfl)
theorem dX27_copied_25 : decode cX27_copied 25 = .ok (.invokevirtual 51, 3) := dk_182 0 51 (dk_at dksX27_copied_1 1 rfl rfl)
theorem dX27_copied_28 : decode cX27_copied 28 = .ok (.invokevirtual 55, 3) := dk_182 0 55 (dk_at dksX27_copied_1 4 rfl rfl)
theorem dX27_copied_31 : decode cX27_copied 31 = .ok (.pop, 1) := dk_87 (dk_at dksX27_copied_1 7 rfl rfl)
theorem dX27_copied_32 : decode cX27_copied 32 = .ok (.iinc 2 1, 3) := dk_132 2 1 (dk_at dksX27_copied_1 8 rfl rfl)
theorem dX27_copied_35 : decode cX27_copied 35 = .ok (.goto (-21), 3) := dk_167 255 235 (dk_at dksX27_copied_1 11 rfl rfl)
theorem dX27_copied_38 : decode cX27_copied 38 = .ok (.aload_n 1, 1) := dk_43 (dk_at dksX27_copied_1 14 rfl rfl)
theorem dX27_copied_39 : decode cX27_copied 39 = .ok (.areturn, 1) := dk_176 (dk_at dksX27_copied_1 15 rfl rfl)
abbrev cX27_lay : ByteArray := prog_13_method_3_code
def yX27_lay : MethodName := ⟨RX27, "lay", "(Ljava/util/ArrayList;Ljava/util/ArrayList;)V"⟩
def dkwX27_lay_1 : List UInt8 := [132, 2, 1, 167, 255, 235, 177]
abbrev dktX27_lay_1 : List UInt8 := dkwX27_lay_1 ++ []
def dkwX27_lay_0 : List UInt8 := [43, 182, 0, 59, 3, 61, 28, 42, 182, 0, 44, 162, 0, 19, 43, 42, 28, 182, 0, 51, 182, 0, 55, 87]
abbrev dktX27_lay_0 : List UInt8 := dkwX27_lay_0 ++ dktX27_lay_1
theorem dksX27_lay_0 : cX27_lay.data.toList.drop 0 = dktX27_lay_0 := by decide +kernel
theorem dksX27_lay_1 : cX27_lay.data.toList.drop 24 = dktX27_lay_1 := dk_seg dksX27_lay_0 24 rfl rfl
theorem dX27_lay_0 : decode cX27_lay 0 = .ok (.aload_n 1, 1) := dk_43 (dk_at dksX27_lay_0 0 rfl rfl)
theorem dX27_lay_1 : decode cX27_lay 1 = .ok (.invokevirtual 59, 3) := dk_182 0 59 (dk_at dksX27_lay_0 1 rfl rfl)
theorem dX27_lay_4 : decode cX27_lay 4 = .ok (.iconst 0, 1) := dk_3 (dk_at dksX27_lay_0 4 rfl rfl)
theorem dX27_lay_5 : decode cX27_lay 5 = .ok (.istore_n 2, 1) := dk_61 (dk_at dksX27_lay_0 5 rfl rfl)
theorem dX27_lay_6 : decode cX27_lay 6 = .ok (.iload_n 2, 1) := dk_28 (dk_at dksX27_lay_0 6 rfl rfl)
theorem dX27_lay_7 : decode cX27_lay 7 = .ok (.aload_n 0, 1) := dk_42 (dk_at dksX27_lay_0 7 rfl rfl)
theorem dX27_lay_8 : decode cX27_lay 8 = .ok (.invokevirtual 44, 3) := dk_182 0 44 (dk_at dksX27_lay_0 8 rfl rfl)
theorem dX27_lay_11 : decode cX27_lay 11 = .ok (.if_icmp .ge 19, 3) := dk_162 0 19 (dk_at dksX27_lay_0 11 rfl rfl)
theorem dX27_lay_14 : decode cX27_lay 14 = .ok (.aload_n 1, 1) := dk_43 (dk_at dksX27_lay_0 14 rfl rfl)
theorem dX27_lay_15 : decode cX27_lay 15 = .ok (.aload_n 0, 1) := dk_42 (dk_at dksX27_lay_0 15 rfl rfl)
theorem dX27_lay_16 : decode cX27_lay 16 = .ok (.iload_n 2, 1) := dk_28 (dk_at dksX27_lay_0 16 rfl rfl)
theorem dX27_lay_17 : decode cX27_lay 17 = .ok (.invokevirtual 51, 3) := dk_182 0 51 (dk_at dksX27_lay_0 17 rfl rfl)
theorem dX27_lay_20 : decode cX27_lay 20 = .ok (.invokevirtual 55, 3) := dk_182 0 55 (dk_at dksX27_lay_0 20 rfl rfl)
theorem dX27_lay_23 : decode cX27_lay 23 = .ok (.pop, 1) := dk_87 (dk_at dksX27_lay_0 23 rfl rfl)
theorem dX27_lay_24 : decode cX27_lay 24 = .ok (.iinc 2 1, 3) := dk_132 2 1 (dk_at dksX27_lay_1 0 rfl rfl)
theorem dX27_lay_27 : decode cX27_lay 27 = .ok (.goto (-21), 3) := dk_167 255 235 (dk_at dksX27_lay_1 3 rfl rfl)
theorem dX27_lay_30 : decode cX27_lay 30 = .ok (.return_, 1) := dk_177 (dk_at dksX27_lay_1 6 rfl rfl)
theorem q165 : (Jvm.Cond.initialized "LiarsCock$Mark") ∈ lw_all := lw_g (lw_at lw_m1 47 rfl) rfl
theorem q416 : (Jvm.Cond.fieldLinkNest "LiarsCock$Mark" (7 : Nat) "LiarsCock" "parish" "LLiarsCock$Parish;" "LiarsCock") ∈ lw_tbl := lw_at lw_m2 58 rfl
theorem q421 : (Jvm.Cond.fieldLinkNest "LiarsCock$Mark" (16 : Nat) "LiarsCock" "truth" "I" "LiarsCock") ∈ lw_tbl := lw_at lw_m2 63 rfl
theorem q423 : (Jvm.Cond.fieldLinkNest "LiarsCock$Mark" (21 : Nat) "LiarsCock" "sayings" "Ljava/util/ArrayList;" "LiarsCock") ∈ lw_tbl := lw_at lw_m2 65 rfl
theorem q425 : (Jvm.Cond.fieldLinkNest "LiarsCock$Mark" (30 : Nat) "LiarsCock" "offers" "Ljava/util/ArrayList;" "LiarsCock") ∈ lw_tbl := lw_at lw_m2 67 rfl
theorem q427 : (Jvm.Cond.fieldLinkNest "LiarsCock$Mark" (34 : Nat) "LiarsCock" "looks" "Ljava/util/ArrayList;" "LiarsCock") ∈ lw_tbl := lw_at lw_m2 69 rfl
theorem q430 : (Jvm.Cond.fieldLinkNest "LiarsCock$Mark" (38 : Nat) "LiarsCock" "watches" "Ljava/util/ArrayList;" "LiarsCock") ∈ lw_tbl := lw_at lw_m2 72 rfl
theorem q787 : (Jvm.Cond.selects "LiarsCock$Mark" ({ cls := "java/lang/Object", name := "getClass", desc := "()Ljava/lang/Class;" } : Jvm.MethodName) ({ cls := "java/lang/Object", name := "getClass", desc := "()Ljava/lang/Class;" } : Jvm.MethodName)) ∈ lw_all := lw_g (lw_at lw_m3 189 rfl) rfl
theorem q1529 : (Jvm.Cond.instantiable "LiarsCock$Mark" (6 : Nat)) ∈ lw_all := lw_g (lw_at lw_m6 211 rfl) rfl
theorem q1531 : (Jvm.Cond.instanceMethod ({ cls := "LiarsCock$Mark", name := "<init>", desc := "(LLiarsCock;)V" } : Jvm.MethodName)) ∈ lw_all := lw_g (lw_at lw_m6 213 rfl) rfl
theorem q1532 : (Jvm.Cond.code ({ cls := "LiarsCock$Mark", name := "<init>", desc := "(LLiarsCock;)V" } : Jvm.MethodName) prog_13_method_1_code (2 : Nat) (Option.none : Option Jvm.ClassFile.FieldType)) ∈ lw_all := lw_g (lw_at lw_m6 214 rfl) rfl
theorem q1533 : (Jvm.Cond.methodLink "LiarsCock$Mark" (1 : Nat) ({ cls := "java/lang/Object", name := "<init>", desc := "()V" } : Jvm.MethodName)) ∈ lw_all := lw_g (lw_at lw_m6 215 rfl) rfl
theorem q1534 : (Jvm.Cond.methodLink "LiarsCock$Mark" (25 : Nat) ({ cls := "LiarsCock$Mark", name := "copied", desc := "(Ljava/util/ArrayList;)Ljava/util/ArrayList;" } : Jvm.MethodName)) ∈ lw_all := lw_g (lw_at lw_m6 216 rfl) rfl
theorem q1535 : (Jvm.Cond.static ({ cls := "LiarsCock$Mark", name := "copied", desc := "(Ljava/util/ArrayList;)Ljava/util/ArrayList;" } : Jvm.MethodName)) ∈ lw_all := lw_g (lw_at lw_m6 217 rfl) rfl
theorem q1536 : (Jvm.Cond.code ({ cls := "LiarsCock$Mark", name := "copied", desc := "(Ljava/util/ArrayList;)Ljava/util/ArrayList;" } : Jvm.MethodName) prog_13_method_2_code (3 : Nat) (Option.some (Jvm.ClassFile.FieldType.object "java/util/ArrayList"))) ∈ lw_all := lw_g (lw_at lw_m6 218 rfl) rfl
theorem q1537 : (Jvm.Cond.classLink "LiarsCock$Mark" (42 : Nat) "java/util/ArrayList") ∈ lw_all := lw_g (lw_at lw_m6 219 rfl) rfl
theorem q1538 : (Jvm.Cond.methodLink "LiarsCock$Mark" (44 : Nat) ({ cls := "java/util/ArrayList", name := "size", desc := "()I" } : Jvm.MethodName)) ∈ lw_all := lw_g (lw_at lw_m6 220 rfl) rfl
theorem q1539 : (Jvm.Cond.methodLink "LiarsCock$Mark" (48 : Nat) ({ cls := "java/util/ArrayList", name := "<init>", desc := "(I)V" } : Jvm.MethodName)) ∈ lw_all := lw_g (lw_at lw_m6 221 rfl) rfl
theorem q1540 : (Jvm.Cond.methodLink "LiarsCock$Mark" (51 : Nat) ({ cls := "java/util/ArrayList", name := "get", desc := "(I)Ljava/lang/Object;" } : Jvm.MethodName)) ∈ lw_all := lw_g (lw_at lw_m6 222 rfl) rfl
theorem q1541 : (Jvm.Cond.methodLink "LiarsCock$Mark" (55 : Nat) ({ cls := "java/util/ArrayList", name := "add", desc := "(Ljava/lang/Object;)Z" } : Jvm.MethodName)) ∈ lw_all := lw_g (lw_at lw_m6 223 rfl) rfl
theorem q1542 : (Jvm.Cond.fieldLink "LiarsCock$Mark" (13 : Nat) "LiarsCock$Mark" "parish" "LLiarsCock$Parish;") ∈ lw_all := lw_g (lw_at lw_m6 224 rfl) rfl
theorem q1544 : (Jvm.Cond.fieldLink "LiarsCock$Mark" (20 : Nat) "LiarsCock$Mark" "truth" "I") ∈ lw_all := lw_g (lw_at lw_m6 226 rfl) rfl
theorem q1546 : (Jvm.Cond.fieldLink "LiarsCock$Mark" (29 : Nat) "LiarsCock$Mark" "sayings" "Ljava/util/ArrayList;") ∈ lw_all := lw_g (lw_at lw_m6 228 rfl) rfl
theorem q1548 : (Jvm.Cond.fieldLink "LiarsCock$Mark" (33 : Nat) "LiarsCock$Mark" "offers" "Ljava/util/ArrayList;") ∈ lw_all := lw_g (lw_at lw_m6 230 rfl) rfl
theorem q1550 : (Jvm.Cond.fieldLink "LiarsCock$Mark" (37 : Nat) "LiarsCock$Mark" "looks" "Ljava/util/ArrayList;") ∈ lw_all := lw_g (lw_at lw_m6 232 rfl) rfl
theorem q1552 : (Jvm.Cond.fieldLink "LiarsCock$Mark" (41 : Nat) "LiarsCock$Mark" "watches" "Ljava/util/ArrayList;") ∈ lw_all := lw_g (lw_at lw_m6 234 rfl) rfl
theorem q1554 : (Jvm.Cond.laysFinal "LiarsCock$Mark" "LiarsCock$Mark" "parish" "LLiarsCock$Parish;") ∈ lw_all := lw_g (lw_at lw_m6 236 rfl) rfl
theorem q1555 : (Jvm.Cond.soleField "LiarsCock$Mark" "parish") ∈ lw_all := lw_g (lw_at lw_m6 237 rfl) rfl
theorem q1556 : (Jvm.Cond.laysFinal "LiarsCock$Mark" "LiarsCock$Mark" "truth" "I") ∈ lw_all := lw_g (lw_at lw_m6 238 rfl) rfl
theorem q1557 : (Jvm.Cond.soleField "LiarsCock$Mark" "truth") ∈ lw_all := lw_g (lw_at lw_m6 239 rfl) rfl
theorem q1558 : (Jvm.Cond.laysFinal "LiarsCock$Mark" "LiarsCock$Mark" "sayings" "Ljava/util/ArrayList;") ∈ lw_all := lw_g (lw_at lw_m7 0 rfl) rfl
theorem q1559 : (Jvm.Cond.soleField "LiarsCock$Mark" "sayings") ∈ lw_all := lw_g (lw_at lw_m7 1 rfl) rfl
theorem q1560 : (Jvm.Cond.laysFinal "LiarsCock$Mark" "LiarsCock$Mark" "offers" "Ljava/util/ArrayList;") ∈ lw_all := lw_g (lw_at lw_m7 2 rfl) rfl
theorem q1561 : (Jvm.Cond.soleField "LiarsCock$Mark" "offers") ∈ lw_all := lw_g (lw_at lw_m7 3 rfl) rfl
theorem q1562 : (Jvm.Cond.laysFinal "LiarsCock$Mark" "LiarsCock$Mark" "looks" "Ljava/util/ArrayList;") ∈ lw_all := lw_g (lw_at lw_m7 4 rfl) rfl
theorem q1563 : (Jvm.Cond.soleField "LiarsCock$Mark" "looks") ∈ lw_all := lw_g (lw_at lw_m7 5 rfl) rfl
theorem q1564 : (Jvm.Cond.laysFinal "LiarsCock$Mark" "LiarsCock$Mark" "watches" "Ljava/util/ArrayList;") ∈ lw_all := lw_g (lw_at lw_m7 6 rfl) rfl
theorem q1565 : (Jvm.Cond.soleField "LiarsCock$Mark" "watches") ∈ lw_all := lw_g (lw_at lw_m7 7 rfl) rfl
theorem q1566 : (Jvm.Cond.superclass "LiarsCock$Mark" "java/lang/Object") ∈ lw_all := lw_g (lw_at lw_m7 8 rfl) rfl
theorem q1568 : (Jvm.Cond.static ({ cls := "LiarsCock$Mark", name := "lay", desc := "(Ljava/util/ArrayList;Ljava/util/ArrayList;)V" } : Jvm.MethodName)) ∈ lw_all := lw_g (lw_at lw_m7 10 rfl) rfl
theorem q1569 : (Jvm.Cond.code ({ cls := "LiarsCock$Mark", name := "lay", desc := "(Ljava/util/ArrayList;Ljava/util/ArrayList;)V" } : Jvm.MethodName) prog_13_method_3_code (3 : Nat) (Option.none : Option Jvm.ClassFile.FieldType)) ∈ lw_all := lw_g (lw_at lw_m7 11 rfl) rfl
theorem q1570 : (Jvm.Cond.methodLink "LiarsCock$Mark" (59 : Nat) ({ cls := "java/util/ArrayList", name := "clear", desc := "()V" } : Jvm.MethodName)) ∈ lw_all := lw_g (lw_at lw_m7 12 rfl) rfl
theorem q2258 : (Jvm.Cond.castable "LiarsCock$Mark" "java/lang/Object") ∈ lw_tbl := lw_at lw_m9 220 rfl
theorem in_X27 : ∀ w ∈ wsX270, w ∈ lw_all := lw_in wsX270 [1554, 1556, 1558, 1560, 1562, 1564] (by decide +kernel) (by decide +kernel)

