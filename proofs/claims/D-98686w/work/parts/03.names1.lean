/-! SaltedGateLaw -/
set_option maxRecDepth 100000
def RX0 : String := "SaltedGateLaw"
abbrev cX0_led : ByteArray := method_3_code
def yX0_led : MethodName := ⟨RX0, "led", "(LSaltedGate;I[J)I"⟩
def dkwX0_led_0 : List UInt8 := [44, 3, 42, 27, 182, 0, 7, 133, 80, 167, 0, 6, 78, 4, 172, 3, 172]
abbrev dktX0_led_0 : List UInt8 := dkwX0_led_0 ++ []
theorem dksX0_led_0 : cX0_led.data.toList.drop 0 = dktX0_led_0 := by decide +kernel
theorem dX0_led_0 : decode cX0_led 0 = .ok (.aload_n 2, 1) := dk_44 (dk_at dksX0_led_0 0 rfl rfl)
theorem dX0_led_1 : decode cX0_led 1 = .ok (.iconst 0, 1) := dk_3 (dk_at dksX0_led_0 1 rfl rfl)
theorem dX0_led_2 : decode cX0_led 2 = .ok (.aload_n 0, 1) := dk_42 (dk_at dksX0_led_0 2 rfl rfl)
theorem dX0_led_3 : decode cX0_led 3 = .ok (.iload_n 1, 1) := dk_27 (dk_at dksX0_led_0 3 rfl rfl)
theorem dX0_led_4 : decode cX0_led 4 = .ok (.invokevirtual 7, 3) := dk_182 0 7 (dk_at dksX0_led_0 4 rfl rfl)
theorem dX0_led_7 : decode cX0_led 7 = .ok (.i2l, 1) := dk_133 (dk_at dksX0_led_0 7 rfl rfl)
theorem dX0_led_8 : decode cX0_led 8 = .ok (.lastore, 1) := dk_80 (dk_at dksX0_led_0 8 rfl rfl)
theorem dX0_led_9 : decode cX0_led 9 = .ok (.goto 6, 3) := dk_167 0 6 (dk_at dksX0_led_0 9 rfl rfl)
theorem dX0_led_12 : decode cX0_led 12 = .ok (.astore_n 3, 1) := dk_78 (dk_at dksX0_led_0 12 rfl rfl)
theorem dX0_led_13 : decode cX0_led 13 = .ok (.iconst 1, 1) := dk_4 (dk_at dksX0_led_0 13 rfl rfl)
theorem dX0_led_14 : decode cX0_led 14 = .ok (.ireturn, 1) := dk_172 (dk_at dksX0_led_0 14 rfl rfl)
theorem dX0_led_15 : decode cX0_led 15 = .ok (.iconst 0, 1) := dk_3 (dk_at dksX0_led_0 15 rfl rfl)
theorem dX0_led_16 : decode cX0_led 16 = .ok (.ireturn, 1) := dk_172 (dk_at dksX0_led_0 16 rfl rfl)
theorem q119 : (Jvm.Cond.initialized "SaltedGateLaw") ∈ lw_all := lw_g (lw_at lw_m1 0 rfl) rfl
theorem q158 : (Jvm.Cond.classLink "SaltedGateLaw" (8 : Nat) "SaltedGate") ∈ lw_all := lw_g (lw_at lw_m1 39 rfl) rfl
theorem q160 : (Jvm.Cond.methodLink "SaltedGateLaw" (15 : Nat) ({ cls := "SaltedGate", name := "<init>", desc := "()V" } : Jvm.MethodName)) ∈ lw_all := lw_g (lw_at lw_m1 41 rfl) rfl
theorem q483 : (Jvm.Cond.methodLink "SaltedGateLaw" (19 : Nat) ({ cls := "SaltedGate", name := "feed", desc := "(IIIII)I" } : Jvm.MethodName)) ∈ lw_all := lw_g (lw_at lw_m2 124 rfl) rfl
theorem q491 : (Jvm.Cond.methodLink "SaltedGateLaw" (24 : Nat) ({ cls := "SaltedGate", name := "barrier", desc := "(I)I" } : Jvm.MethodName)) ∈ lw_all := lw_g (lw_at lw_m2 132 rfl) rfl
theorem q1271 : (Jvm.Cond.methodLink "SaltedGateLaw" (28 : Nat) ({ cls := "SaltedGate", name := "fault", desc := "()I" } : Jvm.MethodName)) ∈ lw_all := lw_g (lw_at lw_m5 192 rfl) rfl
theorem q1275 : (Jvm.Cond.methodLink "SaltedGateLaw" (33 : Nat) ({ cls := "SaltedGate", name := "where", desc := "()I" } : Jvm.MethodName)) ∈ lw_all := lw_g (lw_at lw_m5 196 rfl) rfl
theorem q1279 : (Jvm.Cond.methodLink "SaltedGateLaw" (37 : Nat) ({ cls := "SaltedGate", name := "good", desc := "(II)I" } : Jvm.MethodName)) ∈ lw_all := lw_g (lw_at lw_m5 200 rfl) rfl
theorem q1317 : (Jvm.Cond.methodLink "SaltedGateLaw" (42 : Nat) ({ cls := "SaltedGate", name := "traveller", desc := "(II)I" } : Jvm.MethodName)) ∈ lw_all := lw_g (lw_at lw_m5 238 rfl) rfl
theorem q1330 : (Jvm.Cond.methodLink "SaltedGateLaw" (46 : Nat) ({ cls := "SaltedGate", name := "gate", desc := "(II)I" } : Jvm.MethodName)) ∈ lw_all := lw_g (lw_at lw_m6 11 rfl) rfl
theorem q1338 : (Jvm.Cond.methodLink "SaltedGateLaw" (50 : Nat) ({ cls := "SaltedGate", name := "age", desc := "(II)I" } : Jvm.MethodName)) ∈ lw_all := lw_g (lw_at lw_m6 19 rfl) rfl
theorem q1351 : (Jvm.Cond.methodLink "SaltedGateLaw" (54 : Nat) ({ cls := "SaltedGate", name := "worth", desc := "(II)I" } : Jvm.MethodName)) ∈ lw_all := lw_g (lw_at lw_m6 32 rfl) rfl
theorem q1377 : (Jvm.Cond.methodLink "SaltedGateLaw" (58 : Nat) ({ cls := "SaltedGate", name := "duty", desc := "(II)I" } : Jvm.MethodName)) ∈ lw_all := lw_g (lw_at lw_m6 58 rfl) rfl
theorem q1382 : (Jvm.Cond.methodLink "SaltedGateLaw" (62 : Nat) ({ cls := "SaltedGate", name := "smell", desc := "(II)I" } : Jvm.MethodName)) ∈ lw_all := lw_g (lw_at lw_m6 63 rfl) rfl
theorem q1387 : (Jvm.Cond.methodLink "SaltedGateLaw" (66 : Nat) ({ cls := "SaltedGate", name := "turned", desc := "(I)I" } : Jvm.MethodName)) ∈ lw_all := lw_g (lw_at lw_m6 68 rfl) rfl
theorem q1392 : (Jvm.Cond.methodLink "SaltedGateLaw" (70 : Nat) ({ cls := "SaltedGate", name := "asked", desc := "(III)I" } : Jvm.MethodName)) ∈ lw_all := lw_g (lw_at lw_m6 73 rfl) rfl
theorem q1406 : (Jvm.Cond.methodLink "SaltedGateLaw" (75 : Nat) ({ cls := "SaltedGate", name := "found", desc := "(III)I" } : Jvm.MethodName)) ∈ lw_all := lw_g (lw_at lw_m6 87 rfl) rfl
theorem q1410 : (Jvm.Cond.methodLink "SaltedGateLaw" (79 : Nat) ({ cls := "SaltedGate", name := "otherLaw", desc := "(III)I" } : Jvm.MethodName)) ∈ lw_all := lw_g (lw_at lw_m6 91 rfl) rfl
theorem q1414 : (Jvm.Cond.methodLink "SaltedGateLaw" (83 : Nat) ({ cls := "SaltedGate", name := "carries", desc := "(II)I" } : Jvm.MethodName)) ∈ lw_all := lw_g (lw_at lw_m6 95 rfl) rfl
theorem q1418 : (Jvm.Cond.methodLink "SaltedGateLaw" (87 : Nat) ({ cls := "SaltedGate", name := "dutyBy", desc := "(II)I" } : Jvm.MethodName)) ∈ lw_all := lw_g (lw_at lw_m6 99 rfl) rfl
theorem q1422 : (Jvm.Cond.methodLink "SaltedGateLaw" (91 : Nat) ({ cls := "SaltedGate", name := "nearest", desc := "(III)I" } : Jvm.MethodName)) ∈ lw_all := lw_g (lw_at lw_m6 103 rfl) rfl
theorem q1426 : (Jvm.Cond.methodLink "SaltedGateLaw" (95 : Nat) ({ cls := "SaltedGate", name := "bestGate", desc := "(II)I" } : Jvm.MethodName)) ∈ lw_all := lw_g (lw_at lw_m6 107 rfl) rfl
theorem q1430 : (Jvm.Cond.methodLink "SaltedGateLaw" (99 : Nat) ({ cls := "SaltedGate", name := "cheapestDay", desc := "(II)I" } : Jvm.MethodName)) ∈ lw_all := lw_g (lw_at lw_m6 111 rfl) rfl
theorem q1438 : (Jvm.Cond.methodLink "SaltedGateLaw" (103 : Nat) ({ cls := "SaltedGate", name := "cheapest", desc := "(II)I" } : Jvm.MethodName)) ∈ lw_all := lw_g (lw_at lw_m6 119 rfl) rfl
theorem q1442 : (Jvm.Cond.methodLink "SaltedGateLaw" (107 : Nat) ({ cls := "SaltedGate", name := "eats", desc := "(III)I" } : Jvm.MethodName)) ∈ lw_all := lw_g (lw_at lw_m6 123 rfl) rfl
theorem q1495 : (Jvm.Cond.methodLink "SaltedGateLaw" (111 : Nat) ({ cls := "SaltedGate", name := "eatsAsked", desc := "(III)I" } : Jvm.MethodName)) ∈ lw_all := lw_g (lw_at lw_m6 176 rfl) rfl
theorem q1505 : (Jvm.Cond.methodLink "SaltedGateLaw" (115 : Nat) ({ cls := "SaltedGate", name := "hideBest", desc := "(III)I" } : Jvm.MethodName)) ∈ lw_all := lw_g (lw_at lw_m6 186 rfl) rfl
theorem q1509 : (Jvm.Cond.methodLink "SaltedGateLaw" (119 : Nat) ({ cls := "SaltedGate", name := "hideAsked", desc := "(III)I" } : Jvm.MethodName)) ∈ lw_all := lw_g (lw_at lw_m6 190 rfl) rfl
theorem q1513 : (Jvm.Cond.methodLink "SaltedGateLaw" (123 : Nat) ({ cls := "SaltedGate", name := "cover", desc := "(III)I" } : Jvm.MethodName)) ∈ lw_all := lw_g (lw_at lw_m6 194 rfl) rfl
theorem q1518 : (Jvm.Cond.methodLink "SaltedGateLaw" (127 : Nat) ({ cls := "SaltedGate", name := "hold", desc := "(I)I" } : Jvm.MethodName)) ∈ lw_all := lw_g (lw_at lw_m6 199 rfl) rfl
theorem q1530 : (Jvm.Cond.methodLink "SaltedGateLaw" (131 : Nat) ({ cls := "SaltedGate", name := "holdGain", desc := "(I)I" } : Jvm.MethodName)) ∈ lw_all := lw_g (lw_at lw_m6 211 rfl) rfl
theorem q1538 : (Jvm.Cond.methodLink "SaltedGateLaw" (135 : Nat) ({ cls := "SaltedGate", name := "gain", desc := "(II)I" } : Jvm.MethodName)) ∈ lw_all := lw_g (lw_at lw_m6 219 rfl) rfl
theorem q1555 : (Jvm.Cond.methodLink "SaltedGateLaw" (139 : Nat) ({ cls := "SaltedGate", name := "bestGood", desc := "()I" } : Jvm.MethodName)) ∈ lw_all := lw_g (lw_at lw_m6 236 rfl) rfl
theorem q1559 : (Jvm.Cond.methodLink "SaltedGateLaw" (143 : Nat) ({ cls := "SaltedGate", name := "search", desc := "(I)I" } : Jvm.MethodName)) ∈ lw_all := lw_g (lw_at lw_m7 0 rfl) rfl
theorem q1571 : (Jvm.Cond.methodLink "SaltedGateLaw" (147 : Nat) ({ cls := "SaltedGate", name := "planned", desc := "(I)I" } : Jvm.MethodName)) ∈ lw_all := lw_g (lw_at lw_m7 12 rfl) rfl
theorem q1579 : (Jvm.Cond.methodLink "SaltedGateLaw" (151 : Nat) ({ cls := "SaltedGate", name := "judge", desc := "()I" } : Jvm.MethodName)) ∈ lw_all := lw_g (lw_at lw_m7 20 rfl) rfl
theorem q1583 : (Jvm.Cond.methodLink "SaltedGateLaw" (155 : Nat) ({ cls := "SaltedGate", name := "planOver", desc := "(Z)I" } : Jvm.MethodName)) ∈ lw_all := lw_g (lw_at lw_m7 24 rfl) rfl
theorem q1595 : (Jvm.Cond.methodLink "SaltedGateLaw" (160 : Nat) ({ cls := "SaltedGate", name := "fits", desc := "()I" } : Jvm.MethodName)) ∈ lw_all := lw_g (lw_at lw_m7 36 rfl) rfl
theorem q1613 : (Jvm.Cond.methodLink "SaltedGateLaw" (164 : Nat) ({ cls := "SaltedGate", name := "could", desc := "(I)I" } : Jvm.MethodName)) ∈ lw_all := lw_g (lw_at lw_m7 54 rfl) rfl
theorem q1625 : (Jvm.Cond.methodLink "SaltedGateLaw" (168 : Nat) ({ cls := "SaltedGate", name := "surely", desc := "(I)I" } : Jvm.MethodName)) ∈ lw_all := lw_g (lw_at lw_m7 66 rfl) rfl
theorem q1634 : (Jvm.Cond.methodLink "SaltedGateLaw" (172 : Nat) ({ cls := "SaltedGate", name := "owed", desc := "(IIZ)J" } : Jvm.MethodName)) ∈ lw_all := lw_g (lw_at lw_m7 75 rfl) rfl
theorem q1642 : (Jvm.Cond.methodLink "SaltedGateLaw" (177 : Nat) ({ cls := "SaltedGate", name := "season", desc := "(I)I" } : Jvm.MethodName)) ∈ lw_all := lw_g (lw_at lw_m7 83 rfl) rfl
theorem q1651 : (Jvm.Cond.methodLink "SaltedGateLaw" (181 : Nat) ({ cls := "SaltedGate", name := "seizedIn", desc := "(III)I" } : Jvm.MethodName)) ∈ lw_all := lw_g (lw_at lw_m7 92 rfl) rfl
theorem q1655 : (Jvm.Cond.methodLink "SaltedGateLaw" (185 : Nat) ({ cls := "SaltedGate", name := "eat", desc := "(I)Z" } : Jvm.MethodName)) ∈ lw_all := lw_g (lw_at lw_m7 96 rfl) rfl
theorem q1672 : (Jvm.Cond.methodLink "SaltedGateLaw" (190 : Nat) ({ cls := "SaltedGate", name := "hide", desc := "(IZ)Z" } : Jvm.MethodName)) ∈ lw_all := lw_g (lw_at lw_m7 113 rfl) rfl
theorem q1676 : (Jvm.Cond.methodLink "SaltedGateLaw" (195 : Nat) ({ cls := "SaltedGate", name := "cross", desc := "(II)I" } : Jvm.MethodName)) ∈ lw_all := lw_g (lw_at lw_m7 117 rfl) rfl
theorem q1681 : (Jvm.Cond.methodLink "SaltedGateLaw" (199 : Nat) ({ cls := "SaltedGate", name := "days", desc := "(I)I" } : Jvm.MethodName)) ∈ lw_all := lw_g (lw_at lw_m7 122 rfl) rfl
theorem q1685 : (Jvm.Cond.methodLink "SaltedGateLaw" (203 : Nat) ({ cls := "SaltedGate", name := "undo", desc := "()Z" } : Jvm.MethodName)) ∈ lw_all := lw_g (lw_at lw_m7 126 rfl) rfl
theorem q1689 : (Jvm.Cond.methodLink "SaltedGateLaw" (208 : Nat) ({ cls := "SaltedGate", name := "mark", desc := "()I" } : Jvm.MethodName)) ∈ lw_all := lw_g (lw_at lw_m7 130 rfl) rfl
theorem q1693 : (Jvm.Cond.methodLink "SaltedGateLaw" (212 : Nat) ({ cls := "SaltedGate", name := "back", desc := "(I)Z" } : Jvm.MethodName)) ∈ lw_all := lw_g (lw_at lw_m7 134 rfl) rfl
theorem q1697 : (Jvm.Cond.methodLink "SaltedGateLaw" (225 : Nat) ({ cls := "SaltedGate", name := "size", desc := "(I)I" } : Jvm.MethodName)) ∈ lw_all := lw_g (lw_at lw_m7 138 rfl) rfl
theorem q1701 : (Jvm.Cond.methodLink "SaltedGateLaw" (229 : Nat) ({ cls := "SaltedGate", name := "trouble", desc := "()I" } : Jvm.MethodName)) ∈ lw_all := lw_g (lw_at lw_m7 142 rfl) rfl
theorem q1705 : (Jvm.Cond.methodLink "SaltedGateLaw" (216 : Nat) ({ cls := "SaltedGateLaw", name := "led", desc := "(LSaltedGate;I[J)I" } : Jvm.MethodName)) ∈ lw_all := lw_g (lw_at lw_m7 146 rfl) rfl
theorem q1706 : (Jvm.Cond.static ({ cls := "SaltedGateLaw", name := "led", desc := "(LSaltedGate;I[J)I" } : Jvm.MethodName)) ∈ lw_all := lw_g (lw_at lw_m7 147 rfl) rfl
theorem q1707 : (Jvm.Cond.codeWith ({ cls := "SaltedGateLaw", name := "led", desc := "(LSaltedGate;I[J)I" } : Jvm.MethodName) method_3_code (4 : Nat) (Option.some Jvm.ClassFile.FieldType.int) [((0 : Nat), (9 : Nat), (12 : Nat), (13 : Nat))]) ∈ lw_all := lw_g (lw_at lw_m7 148 rfl) rfl
theorem q1708 : (Jvm.Cond.classLink "SaltedGateLaw" (13 : Nat) "java/util/NoSuchElementException") ∈ lw_all := lw_g (lw_at lw_m7 149 rfl) rfl
theorem q1709 : (Jvm.Cond.methodLink "SaltedGateLaw" (7 : Nat) ({ cls := "SaltedGate", name := "led", desc := "(I)I" } : Jvm.MethodName)) ∈ lw_all := lw_g (lw_at lw_m7 150 rfl) rfl
theorem q1734 : (Jvm.Cond.classLink "SaltedGateLaw" (16 : Nat) "SaltedGateModel") ∈ lw_all := lw_g (lw_at lw_m7 175 rfl) rfl
theorem q1736 : (Jvm.Cond.methodLink "SaltedGateLaw" (18 : Nat) ({ cls := "SaltedGateModel", name := "<init>", desc := "()V" } : Jvm.MethodName)) ∈ lw_all := lw_g (lw_at lw_m7 177 rfl) rfl
theorem q1834 : (Jvm.Cond.methodLink "SaltedGateLaw" (222 : Nat) ({ cls := "SaltedGateModel", name := "thrown", desc := "()I" } : Jvm.MethodName)) ∈ lw_all := lw_g (lw_at lw_m8 35 rfl) rfl
theorem q1838 : (Jvm.Cond.methodLink "SaltedGateLaw" (23 : Nat) ({ cls := "SaltedGateModel", name := "feed", desc := "(IIIII)I" } : Jvm.MethodName)) ∈ lw_all := lw_g (lw_at lw_m8 39 rfl) rfl
theorem q1842 : (Jvm.Cond.methodLink "SaltedGateLaw" (27 : Nat) ({ cls := "SaltedGateModel", name := "barrier", desc := "(I)I" } : Jvm.MethodName)) ∈ lw_all := lw_g (lw_at lw_m8 43 rfl) rfl
theorem q2185 : (Jvm.Cond.methodLink "SaltedGateLaw" (32 : Nat) ({ cls := "SaltedGateModel", name := "fault", desc := "()I" } : Jvm.MethodName)) ∈ lw_all := lw_g (lw_at lw_m9 146 rfl) rfl
theorem q2189 : (Jvm.Cond.methodLink "SaltedGateLaw" (36 : Nat) ({ cls := "SaltedGateModel", name := "where", desc := "()I" } : Jvm.MethodName)) ∈ lw_all := lw_g (lw_at lw_m9 150 rfl) rfl
theorem q2193 : (Jvm.Cond.methodLink "SaltedGateLaw" (41 : Nat) ({ cls := "SaltedGateModel", name := "good", desc := "(II)I" } : Jvm.MethodName)) ∈ lw_all := lw_g (lw_at lw_m9 154 rfl) rfl
theorem q2205 : (Jvm.Cond.methodLink "SaltedGateLaw" (45 : Nat) ({ cls := "SaltedGateModel", name := "traveller", desc := "(II)I" } : Jvm.MethodName)) ∈ lw_all := lw_g (lw_at lw_m9 166 rfl) rfl
theorem q2221 : (Jvm.Cond.methodLink "SaltedGateLaw" (49 : Nat) ({ cls := "SaltedGateModel", name := "gate", desc := "(II)I" } : Jvm.MethodName)) ∈ lw_all := lw_g (lw_at lw_m9 182 rfl) rfl
theorem q2229 : (Jvm.Cond.methodLink "SaltedGateLaw" (53 : Nat) ({ cls := "SaltedGateModel", name := "age", desc := "(II)I" } : Jvm.MethodName)) ∈ lw_all := lw_g (lw_at lw_m9 190 rfl) rfl
theorem q2245 : (Jvm.Cond.methodLink "SaltedGateLaw" (57 : Nat) ({ cls := "SaltedGateModel", name := "worth", desc := "(II)I" } : Jvm.MethodName)) ∈ lw_all := lw_g (lw_at lw_m9 206 rfl) rfl
theorem q2261 : (Jvm.Cond.methodLink "SaltedGateLaw" (61 : Nat) ({ cls := "SaltedGateModel", name := "duty", desc := "(II)I" } : Jvm.MethodName)) ∈ lw_all := lw_g (lw_at lw_m9 222 rfl) rfl
theorem q2269 : (Jvm.Cond.methodLink "SaltedGateLaw" (65 : Nat) ({ cls := "SaltedGateModel", name := "smell", desc := "(II)I" } : Jvm.MethodName)) ∈ lw_all := lw_g (lw_at lw_m9 230 rfl) rfl
theorem q2281 : (Jvm.Cond.methodLink "SaltedGateLaw" (69 : Nat) ({ cls := "SaltedGateModel", name := "turned", desc := "(I)I" } : Jvm.MethodName)) ∈ lw_all := lw_g (lw_at lw_m10 2 rfl) rfl
theorem q2285 : (Jvm.Cond.methodLink "SaltedGateLaw" (74 : Nat) ({ cls := "SaltedGateModel", name := "asked", desc := "(III)I" } : Jvm.MethodName)) ∈ lw_all := lw_g (lw_at lw_m10 6 rfl) rfl
theorem q2301 : (Jvm.Cond.methodLink "SaltedGateLaw" (78 : Nat) ({ cls := "SaltedGateModel", name := "found", desc := "(III)I" } : Jvm.MethodName)) ∈ lw_all := lw_g (lw_at lw_m10 22 rfl) rfl
theorem q2305 : (Jvm.Cond.methodLink "SaltedGateLaw" (82 : Nat) ({ cls := "SaltedGateModel", name := "otherLaw", desc := "(III)I" } : Jvm.MethodName)) ∈ lw_all := lw_g (lw_at lw_m10 26 rfl) rfl
theorem q2309 : (Jvm.Cond.methodLink "SaltedGateLaw" (86 : Nat) ({ cls := "SaltedGateModel", name := "carries", desc := "(II)I" } : Jvm.MethodName)) ∈ lw_all := lw_g (lw_at lw_m10 30 rfl) rfl
theorem q2313 : (Jvm.Cond.methodLink "SaltedGateLaw" (90 : Nat) ({ cls := "SaltedGateModel", name := "dutyBy", desc := "(II)I" } : Jvm.MethodName)) ∈ lw_all := lw_g (lw_at lw_m10 34 rfl) rfl
theorem q2321 : (Jvm.Cond.methodLink "SaltedGateLaw" (94 : Nat) ({ cls := "SaltedGateModel", name := "nearest", desc := "(III)I" } : Jvm.MethodName)) ∈ lw_all := lw_g (lw_at lw_m10 42 rfl) rfl
theorem q2325 : (Jvm.Cond.methodLink "SaltedGateLaw" (98 : Nat) ({ cls := "SaltedGateModel", name := "bestGate", desc := "(II)I" } : Jvm.MethodName)) ∈ lw_all := lw_g (lw_at lw_m10 46 rfl) rfl
theorem q2329 : (Jvm.Cond.methodLink "SaltedGateLaw" (102 : Nat) ({ cls := "SaltedGateModel", name := "cheapestDay", desc := "(II)I" } : Jvm.MethodName)) ∈ lw_all := lw_g (lw_at lw_m10 50 rfl) rfl
theorem q2337 : (Jvm.Cond.methodLink "SaltedGateLaw" (106 : Nat) ({ cls := "SaltedGateModel", name := "cheapest", desc := "(II)I" } : Jvm.MethodName)) ∈ lw_all := lw_g (lw_at lw_m10 58 rfl) rfl
theorem q2341 : (Jvm.Cond.methodLink "SaltedGateLaw" (110 : Nat) ({ cls := "SaltedGateModel", name := "eats", desc := "(III)I" } : Jvm.MethodName)) ∈ lw_all := lw_g (lw_at lw_m10 62 rfl) rfl
theorem q2356 : (Jvm.Cond.methodLink "SaltedGateLaw" (114 : Nat) ({ cls := "SaltedGateModel", name := "eatsAsked", desc := "(III)I" } : Jvm.MethodName)) ∈ lw_all := lw_g (lw_at lw_m10 77 rfl) rfl
theorem q2360 : (Jvm.Cond.methodLink "SaltedGateLaw" (118 : Nat) ({ cls := "SaltedGateModel", name := "hideBest", desc := "(III)I" } : Jvm.MethodName)) ∈ lw_all := lw_g (lw_at lw_m10 81 rfl) rfl
theorem q2368 : (Jvm.Cond.methodLink "SaltedGateLaw" (122 : Nat) ({ cls := "SaltedGateModel", name := "hideAsked", desc := "(III)I" } : Jvm.MethodName)) ∈ lw_all := lw_g (lw_at lw_m10 89 rfl) rfl
theorem q2372 : (Jvm.Cond.methodLink "SaltedGateLaw" (126 : Nat) ({ cls := "SaltedGateModel", name := "cover", desc := "(III)I" } : Jvm.MethodName)) ∈ lw_all := lw_g (lw_at lw_m10 93 rfl) rfl
theorem q2376 : (Jvm.Cond.methodLink "SaltedGateLaw" (130 : Nat) ({ cls := "SaltedGateModel", name := "hold", desc := "(I)I" } : Jvm.MethodName)) ∈ lw_all := lw_g (lw_at lw_m10 97 rfl) rfl
theorem q2384 : (Jvm.Cond.methodLink "SaltedGateLaw" (134 : Nat) ({ cls := "SaltedGateModel", name := "holdGain", desc := "(I)I" } : Jvm.MethodName)) ∈ lw_all := lw_g (lw_at lw_m10 105 rfl) rfl
theorem q2392 : (Jvm.Cond.methodLink "SaltedGateLaw" (138 : Nat) ({ cls := "SaltedGateModel", name := "gain", desc := "(II)I" } : Jvm.MethodName)) ∈ lw_all := lw_g (lw_at lw_m10 113 rfl) rfl
theorem q2400 : (Jvm.Cond.methodLink "SaltedGateLaw" (142 : Nat) ({ cls := "SaltedGateModel", name := "bestGood", desc := "()I" } : Jvm.MethodName)) ∈ lw_all := lw_g (lw_at lw_m10 121 rfl) rfl
theorem q2404 : (Jvm.Cond.methodLink "SaltedGateLaw" (146 : Nat) ({ cls := "SaltedGateModel", name := "search", desc := "(I)I" } : Jvm.MethodName)) ∈ lw_all := lw_g (lw_at lw_m10 125 rfl) rfl
theorem q2412 : (Jvm.Cond.methodLink "SaltedGateLaw" (150 : Nat) ({ cls := "SaltedGateModel", name := "planned", desc := "(I)I" } : Jvm.MethodName)) ∈ lw_all := lw_g (lw_at lw_m10 133 rfl) rfl
theorem q2435 : (Jvm.Cond.methodLink "SaltedGateLaw" (154 : Nat) ({ cls := "SaltedGateModel", name := "judge", desc := "()I" } : Jvm.MethodName)) ∈ lw_all := lw_g (lw_at lw_m10 156 rfl) rfl
theorem q2439 : (Jvm.Cond.methodLink "SaltedGateLaw" (159 : Nat) ({ cls := "SaltedGateModel", name := "planOver", desc := "(Z)I" } : Jvm.MethodName)) ∈ lw_all := lw_g (lw_at lw_m10 160 rfl) rfl
theorem q2443 : (Jvm.Cond.methodLink "SaltedGateLaw" (163 : Nat) ({ cls := "SaltedGateModel", name := "fits", desc := "()I" } : Jvm.MethodName)) ∈ lw_all := lw_g (lw_at lw_m10 164 rfl) rfl
theorem q2459 : (Jvm.Cond.methodLink "SaltedGateLaw" (167 : Nat) ({ cls := "SaltedGateModel", name := "could", desc := "(I)I" } : Jvm.MethodName)) ∈ lw_all := lw_g (lw_at lw_m10 180 rfl) rfl
theorem q2467 : (Jvm.Cond.methodLink "SaltedGateLaw" (171 : Nat) ({ cls := "SaltedGateModel", name := "surely", desc := "(I)I" } : Jvm.MethodName)) ∈ lw_all := lw_g (lw_at lw_m10 188 rfl) rfl
theorem q2471 : (Jvm.Cond.methodLink "SaltedGateLaw" (176 : Nat) ({ cls := "SaltedGateModel", name := "owed", desc := "(IIZ)J" } : Jvm.MethodName)) ∈ lw_all := lw_g (lw_at lw_m10 192 rfl) rfl
theorem q2483 : (Jvm.Cond.methodLink "SaltedGateLaw" (180 : Nat) ({ cls := "SaltedGateModel", name := "season", desc := "(I)I" } : Jvm.MethodName)) ∈ lw_all := lw_g (lw_at lw_m10 204 rfl) rfl
theorem q2488 : (Jvm.Cond.methodLink "SaltedGateLaw" (184 : Nat) ({ cls := "SaltedGateModel", name := "seizedIn", desc := "(III)I" } : Jvm.MethodName)) ∈ lw_all := lw_g (lw_at lw_m10 209 rfl) rfl
theorem q2492 : (Jvm.Cond.methodLink "SaltedGateLaw" (189 : Nat) ({ cls := "SaltedGateModel", name := "eat", desc := "(I)Z" } : Jvm.MethodName)) ∈ lw_all := lw_g (lw_at lw_m10 213 rfl) rfl
theorem q2508 : (Jvm.Cond.methodLink "SaltedGateLaw" (194 : Nat) ({ cls := "SaltedGateModel", name := "hide", desc := "(IZ)Z" } : Jvm.MethodName)) ∈ lw_all := lw_g (lw_at lw_m10 229 rfl) rfl
theorem q2512 : (Jvm.Cond.methodLink "SaltedGateLaw" (198 : Nat) ({ cls := "SaltedGateModel", name := "cross", desc := "(II)I" } : Jvm.MethodName)) ∈ lw_all := lw_g (lw_at lw_m10 233 rfl) rfl
theorem q2516 : (Jvm.Cond.methodLink "SaltedGateLaw" (202 : Nat) ({ cls := "SaltedGateModel", name := "days", desc := "(I)I" } : Jvm.MethodName)) ∈ lw_all := lw_g (lw_at lw_m10 237 rfl) rfl
theorem q2520 : (Jvm.Cond.methodLink "SaltedGateLaw" (207 : Nat) ({ cls := "SaltedGateModel", name := "undo", desc := "()Z" } : Jvm.MethodName)) ∈ lw_all := lw_g (lw_at lw_m11 1 rfl) rfl
theorem q2524 : (Jvm.Cond.methodLink "SaltedGateLaw" (211 : Nat) ({ cls := "SaltedGateModel", name := "mark", desc := "()I" } : Jvm.MethodName)) ∈ lw_all := lw_g (lw_at lw_m11 5 rfl) rfl
theorem q2528 : (Jvm.Cond.methodLink "SaltedGateLaw" (215 : Nat) ({ cls := "SaltedGateModel", name := "back", desc := "(I)Z" } : Jvm.MethodName)) ∈ lw_all := lw_g (lw_at lw_m11 9 rfl) rfl
theorem q2532 : (Jvm.Cond.methodLink "SaltedGateLaw" (221 : Nat) ({ cls := "SaltedGateModel", name := "led", desc := "(I)I" } : Jvm.MethodName)) ∈ lw_all := lw_g (lw_at lw_m11 13 rfl) rfl
theorem q2536 : (Jvm.Cond.methodLink "SaltedGateLaw" (228 : Nat) ({ cls := "SaltedGateModel", name := "size", desc := "(I)I" } : Jvm.MethodName)) ∈ lw_all := lw_g (lw_at lw_m11 17 rfl) rfl
theorem q2540 : (Jvm.Cond.methodLink "SaltedGateLaw" (232 : Nat) ({ cls := "SaltedGateModel", name := "trouble", desc := "()I" } : Jvm.MethodName)) ∈ lw_all := lw_g (lw_at lw_m11 21 rfl) rfl

/-! SaltedGate -/
set_option maxRecDepth 100000
def RX1 : String := "SaltedGate"
def TX1 : u_T := fun k => match k with
  | 0 => ("SaltedGate", "tape", "[B", true)
  | 1 => ("SaltedGate", "taped", "I", false)
  | 2 => ("SaltedGate", "reader", "LSaltedGate$Reader;", true)
  | 3 => ("SaltedGate", "barrier", "LSaltedGate$Barrier;", false)
  | 4 => ("SaltedGate", "trouble", "I", false)
  | 5 => ("SaltedGate", "fault", "I", false)
  | 6 => ("SaltedGate", "where", "I", false)
  | 7 => ("SaltedGate", "markMany", "I", false)
  | 8 => ("SaltedGate", "undoMany", "I", false)
  | 9 => ("SaltedGate", "load", "LSaltedGate$Load;", true)
  | 10 => ("SaltedGate", "was", "LSaltedGate$Load;", true)
  | 11 => ("SaltedGate", "rates", "LSaltedGate$Law;", true)
  | 12 => ("SaltedGate", "others", "LSaltedGate$Law;", true)
  | 13 => ("SaltedGate", "plan", "LSaltedGate$Course;", true)
  | 14 => ("SaltedGate", "drawn", "LSaltedGate$Course;", true)
  | 15 => ("SaltedGate", "crumbs", "LSaltedGate$Crumbs;", true)
  | 16 => ("SaltedGate", "eating", "LSaltedGate$Choice;", true)
  | 17 => ("SaltedGate", "hiding", "LSaltedGate$Choice;", true)
  | 18 => ("SaltedGate", "undone", "[LSaltedGate$Load;", true)
  | _ => ("SaltedGate", "marks", "[LSaltedGate$Load;", true)
def tyX1 : Nat → FieldType := fun k => match k with
  | 0 => .array .byte
  | 1 => .int
  | 2 => .object "SaltedGate$Reader"
  | 3 => .object "SaltedGate$Barrier"
  | 4 => .int
  | 5 => .int
  | 6 => .int
  | 7 => .int
  | 8 => .int
  | 9 => .object "SaltedGate$Load"
  | 10 => .object "SaltedGate$Load"
  | 11 => .object "SaltedGate$Law"
  | 12 => .object "SaltedGate$Law"
  | 13 => .object "SaltedGate$Course"
  | 14 => .object "SaltedGate$Course"
  | 15 => .object "SaltedGate$Crumbs"
  | 16 => .object "SaltedGate$Choice"
  | 17 => .object "SaltedGate$Choice"
  | 18 => .array (.object "SaltedGate$Load")
  | _ => .array (.object "SaltedGate$Load")
abbrev wsX10 : List Cond := u_ws RX1 TX1 20
set_option maxRecDepth 100000 in
theorem nmX1 : ∀ a, a < 20 → ∀ b, b < 20 → a ≠ b → (TX1 a).2.1 ≠ (TX1 b).2.1 := by decide +kernel
set_option maxRecDepth 100000 in
theorem tyX1_ok : ∀ k, k < 20 → parseFieldDescriptor (TX1 k).2.2.1 = some (tyX1 k) := by decide +kernel
abbrev cX1_init : ByteArray := prog_1_method_5_code
def yX1_init : MethodName := ⟨RX1, "<init>", "()V"⟩
def dkwX1_init_8 : List UInt8 := [162, 0, 22, 42, 180, 0, 87, 27, 187, 0, 30, 89, 183, 0, 32, 83, 132, 1, 1, 167, 255, 235, 177]
abbrev dktX1_init_8 : List UInt8 := dkwX1_init_8 ++ []
def dkwX1_init_7 : List UInt8 := [180, 0, 83, 27, 187, 0, 30, 89, 183, 0, 32, 83, 132, 1, 1, 167, 255, 234, 3, 60, 27, 6]
abbrev dktX1_init_7 : List UInt8 := dkwX1_init_7 ++ dktX1_init_8
def dkwX1_init_6 : List UInt8 := [189, 0, 30, 181, 0, 83, 42, 6, 189, 0, 30, 181, 0, 87, 3, 60, 27, 16, 16, 162, 0, 22, 42]
abbrev dktX1_init_6 : List UInt8 := dkwX1_init_6 ++ dktX1_init_7
def dkwX1_init_5 : List UInt8 := [187, 0, 70, 89, 183, 0, 72, 181, 0, 73, 42, 187, 0, 77, 89, 183, 0, 79, 181, 0, 80, 42, 16, 16]
abbrev dktX1_init_5 : List UInt8 := dkwX1_init_5 ++ dktX1_init_6
def dkwX1_init_4 : List UInt8 := [187, 0, 53, 89, 183, 0, 55, 181, 0, 60, 42, 187, 0, 63, 89, 183, 0, 65, 181, 0, 66, 42]
abbrev dktX1_init_4 : List UInt8 := dkwX1_init_4 ++ dktX1_init_5
def dkwX1_init_3 : List UInt8 := [187, 0, 47, 89, 183, 0, 49, 181, 0, 50, 42, 187, 0, 53, 89, 183, 0, 55, 181, 0, 56, 42]
abbrev dktX1_init_3 : List UInt8 := dkwX1_init_3 ++ dktX1_init_4
def dkwX1_init_2 : List UInt8 := [187, 0, 30, 89, 183, 0, 32, 181, 0, 37, 42, 187, 0, 40, 89, 183, 0, 42, 181, 0, 43, 42]
abbrev dktX1_init_2 : List UInt8 := dkwX1_init_2 ++ dktX1_init_3
def dkwX1_init_1 : List UInt8 := [183, 0, 19, 181, 0, 22, 42, 2, 181, 0, 26, 42, 187, 0, 30, 89, 183, 0, 32, 181, 0, 33, 42]
abbrev dktX1_init_1 : List UInt8 := dkwX1_init_1 ++ dktX1_init_2
def dkwX1_init_0 : List UInt8 := [42, 183, 0, 7, 42, 17, 4, 76, 188, 8, 181, 0, 13, 42, 187, 0, 17, 89, 42, 180, 0, 13]
abbrev dktX1_init_0 : List UInt8 := dkwX1_init_0 ++ dktX1_init_1
theorem dksX1_init_0 : cX1_init.data.toList.drop 0 = dktX1_init_0 := by decide +kernel
theorem dksX1_init_1 : cX1_init.data.toList.drop 22 = dktX1_init_1 := dk_seg dksX1_init_0 22 rfl rfl
theorem dksX1_init_2 : cX1_init.data.toList.drop 45 = dktX1_init_2 := dk_seg dksX1_init_1 23 rfl rfl
theorem dksX1_init_3 : cX1_init.data.toList.drop 67 = dktX1_init_3 := dk_seg dksX1_init_2 22 rfl rfl
theorem dksX1_init_4 : cX1_init.data.toList.drop 89 = dktX1_init_4 := dk_seg dksX1_init_3 22 rfl rfl
theorem dksX1_init_5 : cX1_init.data.toList.drop 111 = dktX1_init_5 := dk_seg dksX1_init_4 22 rfl rfl
theorem dksX1_init_6 : cX1_init.data.toList.drop 135 = dktX1_init_6 := dk_seg dksX1_init_5 24 rfl rfl
theorem dksX1_init_7 : cX1_init.data.toList.drop 158 = dktX1_init_7 := dk_seg dksX1_init_6 23 rfl rfl
theorem dksX1_init_8 : cX1_init.data.toList.drop 180 = dktX1_init_8 := dk_seg dksX1_init_7 22 rfl rfl
theorem dX1_init_0 : decode cX1_init 0 = .ok (.aload_n 0, 1) := dk_42 (dk_at dksX1_init_0 0 rfl rfl)
theorem dX1_init_1 : decode cX1_init 1 = .ok (.invokespecial 7, 3) := dk_183 0 7 (dk_at dksX1_init_0 1 rfl rfl)
theorem dX1_init_4 : decode cX1_init 4 = .ok (.aload_n 0, 1) := dk_42 (dk_at dksX1_init_0 4 rfl rfl)
theorem dX1_init_5 : decode cX1_init 5 = .ok (.sipush 1100, 3) := dk_17 4 76 (dk_at dksX1_init_0 5 rfl rfl)
theorem dX1_init_8 : decode cX1_init 8 = .ok (.newarray .byte, 2) := dk_188_8 (dk_at dksX1_init_0 8 rfl rfl)
theorem dX1_init_10 : decode cX1_init 10 = .ok (.putfield 13, 3) := dk_181 0 13 (dk_at dksX1_init_0 10 rfl rfl)
theorem dX1_init_13 : decode cX1_init 13 = .ok (.aload_n 0, 1) := dk_42 (dk_at dksX1_init_0 13 rfl rfl)
theorem dX1_init_14 : decode cX1_init 14 = .ok (.new 17, 3) := dk_187 0 17 (dk_at dksX1_init_0 14 rfl rfl)
theorem dX1_init_17 : decode cX1_init 17 = .ok (.dup, 1) := dk_89 (dk_at dksX1_init_0 17 rfl rfl)
theorem dX1_init_18 : decode cX1_init 18 = .ok (.aload_n 0, 1) := dk_42 (dk_at dksX1_init_0 18 rfl rfl)
theorem dX1_init_19 : decode cX1_init 19 = .ok (.getfield 13, 3) := dk_180 0 13 (dk_at dksX1_init_0 19 rfl rfl)
theorem dX1_init_22 : decode cX1_init 22 = .ok (.invokespecial 19, 3) := dk_183 0 19 (dk_at dksX1_init_1 0 rfl rfl)
theorem dX1_init_25 : decode cX1_init 25 = .ok (.putfield 22, 3) := dk_181 0 22 (dk_at dksX1_init_1 3 rfl rfl)
theorem dX1_init_28 : decode cX1_init 28 = .ok (.aload_n 0, 1) := dk_42 (dk_at dksX1_init_1 6 rfl rfl)
theorem dX1_init_29 : decode cX1_init 29 = .ok (.iconst (-1), 1) := dk_2 (dk_at dksX1_init_1 7 rfl rfl)
theorem dX1_init_30 : decode cX1_init 30 = .ok (.putfield 26, 3) := dk_181 0 26 (dk_at dksX1_init_1 8 rfl rfl)
theorem dX1_init_33 : decode cX1_init 33 = .ok (.aload_n 0, 1) := dk_42 (dk_at dksX1_init_1 11 rfl rfl)
theorem dX1_init_34 : decode cX1_init 34 = .ok (.new 30, 3) := dk_187 0 30 (dk_at dksX1_init_1 12 rfl rfl)
theorem dX1_init_37 : decode cX1_init 37 = .ok (.dup, 1) := dk_89 (dk_at dksX1_init_1 15 rfl rfl)
theorem dX1_init_38 : decode cX1_init 38 = .ok (.invokespecial 32, 3) := dk_183 0 32 (dk_at dksX1_init_1 16 rfl rfl)
theorem dX1_init_41 : decode cX1_init 41 = .ok (.putfield 33, 3) := dk_181 0 33 (dk_at dksX1_init_1 19 rfl rfl)
theorem dX1_init_44 : decode cX1_init 44 = .ok (.aload_n 0, 1) := dk_42 (dk_at dksX1_init_1 22 rfl rfl)
theorem dX1_init_45 : decode cX1_init 45 = .ok (.new 30, 3) := dk_187 0 30 (dk_at dksX1_init_2 0 rfl rfl)
theorem dX1_init_48 : decode cX1_init 48 = .ok (.dup, 1) := dk_89 (dk_at dksX1_init_2 3 rfl rfl)
theorem dX1_init_49 : decode cX1_init 49 = .ok (.invokespecial 32, 3) := dk_183 0 32 (dk_at dksX1_init_2 4 rfl rfl)
theorem dX1_init_52 : decode cX1_init 52 = .ok (.putfield 37, 3) := dk_181 0 37 (dk_at dksX1_init_2 7 rfl rfl)
theorem dX1_init_55 : decode cX1_init 55 = .ok (.aload_n 0, 1) := dk_42 (dk_at dksX1_init_2 10 rfl rfl)
theorem dX1_init_56 : decode cX1_init 56 = .ok (.new 40, 3) := dk_187 0 40 (dk_at dksX1_init_2 11 rfl rfl)
theorem dX1_init_59 : decode cX1_init 59 = .ok (.dup, 1) := dk_89 (dk_at dksX1_init_2 14 rfl rfl)
theorem dX1_init_60 : decode cX1_init 60 = .ok (.invokespecial 42, 3) := dk_183 0 42 (dk_at dksX1_init_2 15 rfl rfl)
theorem dX1_init_63 : decode cX1_init 63 = .ok (.putfield 43, 3) := dk_181 0 43 (dk_at dksX1_init_2 18 rfl rfl)
theorem dX1_init_66 : decode cX1_init 66 = .ok (.aload_n 0, 1) := dk_42 (dk_at dksX1_init_2 21 rfl rfl)
theorem dX1_init_67 : decode cX1_init 67 = .ok (.new 47, 3) := dk_187 0 47 (dk_at dksX1_init_3 0 rfl rfl)
theorem dX1_init_70 : decode cX1_init 70 = .ok (.dup, 1) := dk_89 (dk_at dksX1_init_3 3 rfl rfl)
theorem dX1_init_71 : decode cX1_init 71 = .ok (.invokespecial 49, 3) := dk_183 0 49 (dk_at dksX1_init_3 4 rfl rfl)
theorem dX1_init_74 : decode cX1_init 74 = .ok (.putfield 50, 3) := dk_181 0 50 (dk_at dksX1_init_3 7 rfl rfl)
theorem dX1_init_77 : decode cX1_init 77 = .ok (.aload_n 0, 1) := dk_42 (dk_at dksX1_init_3 10 rfl rfl)
theorem dX1_init_78 : decode cX1_init 78 = .ok (.new 53, 3) := dk_187 0 53 (dk_at dksX1_init_3 11 rfl rfl)
theorem dX1_init_81 : decode cX1_init 81 = .ok (.dup, 1) := dk_89 (dk_at dksX1_init_3 14 rfl rfl)
theorem dX1_init_82 : decode cX1_init 82 = .ok (.invokespecial 55, 3) := dk_183 0 55 (dk_at dksX1_init_3 15 rfl rfl)
theorem dX1_init_85 : decode cX1_init 85 = .ok (.putfield 56, 3) := dk_181 0 56 (dk_at dksX1_init_3 18 rfl rfl)
theorem dX1_init_88 : decode cX1_init 88 = .ok (.aload_n 0, 1) := dk_42 (dk_at dksX1_init_3 21 rfl rfl)
theorem dX1_init_89 : decode cX1_init 89 = .ok (.new 53, 3) := dk_187 0 53 (dk_at dksX1_init_4 0 rfl rfl)
theorem dX1_init_92 : decode cX1_init 92 = .ok (.dup, 1) := dk_89 (dk_at dksX1_init_4 3 rfl rfl)
theorem dX1_init_93 : decode cX1_init 93 = .ok (.invokespecial 55, 3) := dk_183 0 55 (dk_at dksX1_init_4 4 rfl rfl)
theorem dX1_init_96 : decode cX1_init 96 = .ok (.putfield 60, 3) := dk_181 0 60 (dk_at dksX1_init_4 7 rfl rfl)
theorem dX1_init_99 : decode cX1_init 99 = .ok (.aload_n 0, 1) := dk_42 (dk_at dksX1_init_4 10 rfl rfl)
theorem dX1_init_100 : decode cX1_init 100 = .ok (.new 63, 3) := dk_187 0 63 (dk_at dksX1_init_4 11 rfl rfl)
theorem dX1_init_103 : decode cX1_init 103 = .ok (.dup, 1) := dk_89 (dk_at dksX1_init_4 14 rfl rfl)
theorem dX1_init_104 : decode cX1_init 104 = .ok (.invokespecial 65, 3) := dk_183 0 65 (dk_at dksX1_init_4 15 rfl rfl)
theorem dX1_init_107 : decode cX1_init 107 = .ok (.putfield 66, 3) := dk_181 0 66 (dk_at dksX1_init_4 18 rfl rfl)
theorem dX1_init_110 : decode cX1_init 110 = .ok (.aload_n 0, 1) := dk_42 (dk_at dksX1_init_4 21 rfl rfl)
theorem dX1_init_111 : decode cX1_init 111 = .ok (.new 70, 3) := dk_187 0 70 (dk_at dksX1_init_5 0 rfl rfl)
theorem dX1_init_114 : decode cX1_init 114 = .ok (.dup, 1) := dk_89 (dk_at dksX1_init_5 3 rfl rfl)
theorem dX1_init_115 : decode cX1_init 115 = .ok (.invokespecial 72, 3) := dk_183 0 72 (dk_at dksX1_init_5 4 rfl rfl)
theorem dX1_init_118 : decode cX1_init 118 = .ok (.putfield 73, 3) := dk_181 0 73 (dk_at dksX1_init_5 7 rfl rfl)
theorem dX1_init_121 : decode cX1_init 121 = .ok (.aload_n 0, 1) := dk_42 (dk_at dksX1_init_5 10 rfl rfl)
theorem dX1_init_122 : decode cX1_init 122 = .ok (.new 77, 3) := dk_187 0 77 (dk_at dksX1_init_5 11 rfl rfl)
theorem dX1_init_125 : decode cX1_init 125 = .ok (.dup, 1) := dk_89 (dk_at dksX1_init_5 14 rfl rfl)
theorem dX1_init_126 : decode cX1_init 126 = .ok (.invokespecial 79, 3) := dk_183 0 79 (dk_at dksX1_init_5 15 rfl rfl)
theorem dX1_init_129 : decode cX1_init 129 = .ok (.putfield 80, 3) := dk_181 0 80 (dk_at dksX1_init_5 18 rfl rfl)
theorem dX1_init_132 : decode cX1_init 132 = .ok (.aload_n 0, 1) := dk_42 (dk_at dksX1_init_5 21 rfl rfl)
theorem dX1_init_133 : decode cX1_init 133 = .ok (.bipush 16, 2) := dk_16 16 (dk_at dksX1_init_5 22 rfl rfl)
theorem dX1_init_135 : decode cX1_init 135 = .ok (.anewarray 30, 3) := dk_189 0 30 (dk_at dksX1_init_6 0 rfl rfl)
theorem dX1_init_138 : decode cX1_init 138 = .ok (.putfield 83, 3) := dk_181 0 83 (dk_at dksX1_init_6 3 rfl rfl)
theorem dX1_init_141 : decode cX1_init 141 = .ok (.aload_n 0, 1) := dk_42 (dk_at dksX1_init_6 6 rfl rfl)
theorem dX1_init_142 : decode cX1_init 142 = .ok (.iconst 3, 1) := dk_6 (dk_at dksX1_init_6 7 rfl rfl)
theorem dX1_init_143 : decode cX1_init 143 = .ok (.anewarray 30, 3) := dk_189 0 30 (dk_at dksX1_init_6 8 rfl rfl)
theorem dX1_init_146 : decode cX1_init 146 = .ok (.putfield 87, 3) := dk_181 0 87 (dk_at dksX1_init_6 11 rfl rfl)
theorem dX1_init_149 : decode cX1_init 149 = .ok (.iconst 0, 1) := dk_3 (dk_at dksX1_init_6 14 rfl rfl)
theorem dX1_init_150 : decode cX1_init 150 = .ok (.istore_n 1, 1) := dk_60 (dk_at dksX1_init_6 15 rfl rfl)
theorem dX1_init_151 : decode cX1_init 151 = .ok (.iload_n 1, 1) := dk_27 (dk_at dksX1_init_6 16 rfl rfl)
theorem dX1_init_152 : decode cX1_init 152 = .ok (.bipush 16, 2) := dk_16 16 (dk_at dksX1_init_6 17 rfl rfl)
theorem dX1_init_154 : decode cX1_init 154 = .ok (.if_icmp .ge 22, 3) := dk_162 0 22 (dk_at dksX1_init_6 19 rfl rfl)
theorem dX1_init_157 : decode cX1_init 157 = .ok (.aload_n 0, 1) := dk_42 (dk_at dksX1_init_6 22 rfl rfl)
theorem dX1_init_158 : decode cX1_init 158 = .ok (.getfield 83, 3) := dk_180 0 83 (dk_at dksX1_init_7 0 rfl rfl)
theorem dX1_init_161 : decode cX1_init 161 = .ok (.iload_n 1, 1) := dk_27 (dk_at dksX1_init_7 3 rfl rfl)
theorem dX1_init_162 : decode cX1_init 162 = .ok (.new 30, 3) := dk_187 0 30 (dk_at dksX1_init_7 4 rfl rfl)
theorem dX1_init_165 : decode cX1_init 165 = .ok (.dup, 1) := dk_89 (dk_at dksX1_init_7 7 rfl rfl)
theorem dX1_init_166 : decode cX1_init 166 = .ok (.invokespecial 32, 3) := dk_183 0 32 (dk_at dksX1_init_7 8 rfl rfl)
theorem dX1_init_169 : decode cX1_init 169 = .ok (.aastore, 1) := dk_83 (dk_at dksX1_init_7 11 rfl rfl)
theorem dX1_init_170 : decode cX1_init 170 = .ok (.iinc 1 1, 3) := dk_132 1 1 (dk_at dksX1_init_7 12 rfl rfl)
theorem dX1_init_173 : decode cX1_init 173 = .ok (.goto (-22), 3) := dk_167 255 234 (dk_at dksX1_init_7 15 rfl rfl)
theorem dX1_init_176 : decode cX1_init 176 = .ok (.iconst 0, 1) := dk_3 (dk_at dksX1_init_7 18 rfl rfl)
theorem dX1_init_177 : decode cX1_init 177 = .ok (.istore_n 1, 1) := dk_60 (dk_at dksX1_init_7 19 rfl rfl)
theorem dX1_init_178 : decode cX1_init 178 = .ok (.iload_n 1, 1) := dk_27 (dk_at dksX1_init_7 20 rfl rfl)
theorem dX1_init_179 : decode cX1_init 179 = .ok (.iconst 3, 1) := dk_6 (dk_at dksX1_init_7 21 rfl rfl)
theorem dX1_init_180 : decode cX1_init 180 = .ok (.if_icmp .ge 22, 3) := dk_162 0 22 (dk_at dksX1_init_8 0 rfl rfl)
theorem dX1_init_183 : decode cX1_init 183 = .ok (.aload_n 0, 1) := dk_42 (dk_at dksX1_init_8 3 rfl rfl)
theorem dX1_init_184 : decode cX1_init 184 = .ok (.getfield 87, 3) := dk_180 0 87 (dk_at dksX1_init_8 4 rfl rfl)
theorem dX1_init_187 : decode cX1_init 187 = .ok (.iload_n 1, 1) := dk_27 (dk_at dksX1_init_8 7 rfl rfl)
theorem dX1_init_188 : decode cX1_init 188 = .ok (.new 30, 3) := dk_187 0 30 (dk_at dksX1_init_8 8 rfl rfl)
theorem dX1_init_191 : decode cX1_init 191 = .ok (.dup, 1) := dk_89 (dk_at dksX1_init_8 11 rfl rfl)
theorem dX1_init_192 : decode cX1_init 192 = .ok (.invokespecial 32, 3) := dk_183 0 32 (dk_at dksX1_init_8 12 rfl rfl)
theorem dX1_init_195 : decode cX1_init 195 = .ok (.aastore, 1) := dk_83 (dk_at dksX1_init_8 15 rfl rfl)
theorem dX1_init_196 : decode cX1_init 196 = .ok (.iinc 1 1, 3) := dk_132 1 1 (dk_at dksX1_init_8 16 rfl rfl)
theorem dX1_init_199 : decode cX1_init 199 = .ok (.goto (-21), 3) := dk_167 255 235 (dk_at dksX1_init_8 19 rfl rfl)
theorem dX1_init_202 : decode cX1_init 202 = .ok (.return_, 1) := dk_177 (dk_at dksX1_init_8 22 rfl rfl)
abbrev cX1_feed : ByteArray := prog_1_method_10_code
def yX1_feed : MethodName := ⟨RX1, "feed", "(IIIII)I"⟩
def dkwX1_feed_2 : List UInt8 := [172]
abbrev dktX1_feed_2 : List UInt8 := dkwX1_feed_2 ++ []
def dkwX1_feed_1 : List UInt8 := [182, 0, 99, 42, 29, 182, 0, 99, 42, 21, 4, 182, 0, 99, 42, 21, 5, 182, 0, 99, 42, 180, 0, 96]
abbrev dktX1_feed_1 : List UInt8 := dkwX1_feed_1 ++ dktX1_feed_2
def dkwX1_feed_0 : List UInt8 := [42, 180, 0, 96, 16, 20, 96, 17, 4, 76, 164, 0, 5, 2, 172, 42, 27, 182, 0, 99, 42, 28]
abbrev dktX1_feed_0 : List UInt8 := dkwX1_feed_0 ++ dktX1_feed_1
theorem dksX1_feed_0 : cX1_feed.data.toList.drop 0 = dktX1_feed_0 := by decide +kernel
theorem dksX1_feed_1 : cX1_feed.data.toList.drop 22 = dktX1_feed_1 := dk_seg dksX1_feed_0 22 rfl rfl
theorem dksX1_feed_2 : cX1_feed.data.toList.drop 46 = dktX1_feed_2 := dk_seg dksX1_feed_1 24 rfl rfl
theorem dX1_feed_0 : decode cX1_feed 0 = .ok (.aload_n 0, 1) := dk_42 (dk_at dksX1_feed_0 0 rfl rfl)
theorem dX1_feed_1 : decode cX1_feed 1 = .ok (.getfield 96, 3) := dk_180 0 96 (dk_at dksX1_feed_0 1 rfl rfl)
theorem dX1_feed_4 : decode cX1_feed 4 = .ok (.bipush 20, 2) := dk_16 20 (dk_at dksX1_feed_0 4 rfl rfl)
theorem dX1_feed_6 : decode cX1_feed 6 = .ok (.iadd, 1) := dk_96 (dk_at dksX1_feed_0 6 rfl rfl)
theorem dX1_feed_7 : decode cX1_feed 7 = .ok (.sipush 1100, 3) := dk_17 4 76 (dk_at dksX1_feed_0 7 rfl rfl)
theorem dX1_feed_10 : decode cX1_feed 10 = .ok (.if_icmp .le 5, 3) := dk_164 0 5 (dk_at dksX1_feed_0 10 rfl rfl)
theorem dX1_feed_13 : decode cX1_feed 13 = .ok (.iconst (-1), 1) := dk_2 (dk_at dksX1_feed_0 13 rfl rfl)
theorem dX1_feed_14 : decode cX1_feed 14 = .ok (.ireturn, 1) := dk_172 (dk_at dksX1_feed_0 14 rfl rfl)
theorem dX1_feed_15 : decode cX1_feed 15 = .ok (.aload_n 0, 1) := dk_42 (dk_at dksX1_feed_0 15 rfl rfl)
theorem dX1_feed_16 : decode cX1_feed 16 = .ok (.iload_n 1, 1) := dk_27 (dk_at dksX1_feed_0 16 rfl rfl)
theorem dX1_feed_17 : decode cX1_feed 17 = .ok (.invokevirtual 99, 3) := dk_182 0 99 (dk_at dksX1_feed_0 17 rfl rfl)
theorem dX1_feed_20 : decode cX1_feed 20 = .ok (.aload_n 0, 1) := dk_42 (dk_at dksX1_feed_0 20 rfl rfl)
theorem dX1_feed_21 : decode cX1_feed 21 = .ok (.iload_n 2, 1) := dk_28 (dk_at dksX1_feed_0 21 rfl rfl)
theorem dX1_feed_22 : decode cX1_feed 22 = .ok (.invokevirtual 99, 3) := dk_182 0 99 (dk_at dksX1_feed_1 0 rfl rfl)
theorem dX1_feed_25 : decode cX1_feed 25 = .ok (.aload_n 0, 1) := dk_42 (dk_at dksX1_feed_1 3 rfl rfl)
theorem dX1_feed_26 : decode cX1_feed 26 = .ok (.iload_n 3, 1) := dk_29 (dk_at dksX1_feed_1 4 rfl rfl)
theorem dX1_feed_27 : decode cX1_feed 27 = .ok (.invokevirtual 99, 3) := dk_182 0 99 (dk_at dksX1_feed_1 5 rfl rfl)
theorem dX1_feed_30 : decode cX1_feed 30 = .ok (.aload_n 0, 1) := dk_42 (dk_at dksX1_feed_1 8 rfl rfl)
theorem dX1_feed_31 : decode cX1_feed 31 = .ok (.iload 4, 2) := dk_21 4 (dk_at dksX1_feed_1 9 rfl rfl)
theorem dX1_feed_33 : decode cX1_feed 33 = .ok (.invokevirtual 99, 3) := dk_182 0 99 (dk_at dksX1_feed_1 11 rfl rfl)
theorem dX1_feed_36 : decode cX1_feed 36 = .ok (.aload_n 0, 1) := dk_42 (dk_at dksX1_feed_1 14 rfl rfl)
theorem dX1_feed_37 : decode cX1_feed 37 = .ok (.iload 5, 2) := dk_21 5 (dk_at dksX1_feed_1 15 rfl rfl)
theorem dX1_feed_39 : decode cX1_feed 39 = .ok (.invokevirtual 99, 3) := dk_182 0 99 (dk_at dksX1_feed_1 17 rfl rfl)
theorem dX1_feed_42 : decode cX1_feed 42 = .ok (.aload_n 0, 1) := dk_42 (dk_at dksX1_feed_1 20 rfl rfl)
theorem dX1_feed_43 : decode cX1_feed 43 = .ok (.getfield 96, 3) := dk_180 0 96 (dk_at dksX1_feed_1 21 rfl rfl)
theorem dX1_feed_46 : decode cX1_feed 46 = .ok (.ireturn, 1) := dk_172 (dk_at dksX1_feed_2 0 rfl rfl)
abbrev cX1_bytes : ByteArray := prog_1_method_11_code
def yX1_bytes : MethodName := ⟨RX1, "bytes", "(I)V"⟩
def dkwX1_bytes_1 : List UInt8 := [180, 0, 96, 4, 96, 181, 0, 96, 132, 2, 248, 167, 255, 226, 177]
abbrev dktX1_bytes_1 : List UInt8 := dkwX1_bytes_1 ++ []
def dkwX1_bytes_0 : List UInt8 := [16, 24, 61, 28, 155, 0, 32, 42, 180, 0, 13, 42, 180, 0, 96, 27, 28, 122, 145, 84, 42, 89]
abbrev dktX1_bytes_0 : List UInt8 := dkwX1_bytes_0 ++ dktX1_bytes_1
theorem dksX1_bytes_0 : cX1_bytes.data.toList.drop 0 = dktX1_bytes_0 := by decide +kernel
theorem dksX1_bytes_1 : cX1_bytes.data.toList.drop 22 = dktX1_bytes_1 := dk_seg dksX1_bytes_0 22 rfl rfl
theorem dX1_bytes_0 : decode cX1_bytes 0 = .ok (.bipush 24, 2) := dk_16 24 (dk_at dksX1_bytes_0 0 rfl rfl)
theorem dX1_bytes_2 : decode cX1_bytes 2 = .ok (.istore_n 2, 1) := dk_61 (dk_at dksX1_bytes_0 2 rfl rfl)
theorem dX1_bytes_3 : decode cX1_bytes 3 = .ok (.iload_n 2, 1) := dk_28 (dk_at dksX1_bytes_0 3 rfl rfl)
theorem dX1_bytes_4 : decode cX1_bytes 4 = .ok (.ifCond .lt 32, 3) := dk_155 0 32 (dk_at dksX1_bytes_0 4 rfl rfl)
theorem dX1_bytes_7 : decode cX1_bytes 7 = .ok (.aload_n 0, 1) := dk_42 (dk_at dksX1_bytes_0 7 rfl rfl)
theorem dX1_bytes_8 : decode cX1_bytes 8 = .ok (.getfield 13, 3) := dk_180 0 13 (dk_at dksX1_bytes_0 8 rfl rfl)
theorem dX1_bytes_11 : decode cX1_bytes 11 = .ok (.aload_n 0, 1) := dk_42 (dk_at dksX1_bytes_0 11 rfl rfl)
theorem dX1_bytes_12 : decode cX1_bytes 12 = .ok (.getfield 96, 3) := dk_180 0 96 (dk_at dksX1_bytes_0 12 rfl rfl)
theorem dX1_bytes_15 : decode cX1_bytes 15 = .ok (.iload_n 1, 1) := dk_27 (dk_at dksX1_bytes_0 15 rfl rfl)
theorem dX1_bytes_16 : decode cX1_bytes 16 = .ok (.iload_n 2, 1) := dk_28 (dk_at dksX1_bytes_0 16 rfl rfl)
theorem dX1_bytes_17 : decode cX1_bytes 17 = .ok (.ishr, 1) := dk_122 (dk_at dksX1_bytes_0 17 rfl rfl)
theorem dX1_bytes_18 : decode cX1_bytes 18 = .ok (.i2b, 1) := dk_145 (dk_at dksX1_bytes_0 18 rfl rfl)
theorem dX1_bytes_19 : decode cX1_bytes 19 = .ok (.bastore, 1) := dk_84 (dk_at dksX1_bytes_0 19 rfl rfl)
theorem dX1_bytes_20 : decode cX1_bytes 20 = .ok (.aload_n 0, 1) := dk_42 (dk_at dksX1_bytes_0 20 rfl rfl)
theorem dX1_bytes_21 : decode cX1_bytes 21 = .ok (.dup, 1) := dk_89 (dk_at dksX1_bytes_0 21 rfl rfl)
theorem dX1_bytes_22 : decode cX1_bytes 22 = .ok (.getfield 96, 3) := dk_180 0 96 (dk_at dksX1_bytes_1 0 rfl rfl)
theorem dX1_bytes_25 : decode cX1_bytes 25 = .ok (.iconst 1, 1) := dk_4 (dk_at dksX1_bytes_1 3 rfl rfl)
theorem dX1_bytes_26 : decode cX1_bytes 26 = .ok (.iadd, 1) := dk_96 (dk_at dksX1_bytes_1 4 rfl rfl)
theorem dX1_bytes_27 : decode cX1_bytes 27 = .ok (.putfield 96, 3) := dk_181 0 96 (dk_at dksX1_bytes_1 5 rfl rfl)
theorem dX1_bytes_30 : decode cX1_bytes 30 = .ok (.iinc 2 (-8), 3) := dk_132 2 248 (dk_at dksX1_bytes_1 8 rfl rfl)
theorem dX1_bytes_33 : decode cX1_bytes 33 = .ok (.goto (-30), 3) := dk_167 255 226 (dk_at dksX1_bytes_1 11 rfl rfl)
theorem dX1_bytes_36 : decode cX1_bytes 36 = .ok (.return_, 1) := dk_177 (dk_at dksX1_bytes_1 14 rfl rfl)
abbrev cX1_barrier : ByteArray := prog_1_method_12_code
def yX1_barrier : MethodName := ⟨RX1, "barrier", "(I)I"⟩
def dkwX1_barrier_4 : List UInt8 := [182, 0, 132, 87, 42, 3, 181, 0, 136, 42, 3, 181, 0, 139, 42, 180, 0, 118, 180, 0, 142, 172]
abbrev dktX1_barrier_4 : List UInt8 := dkwX1_barrier_4 ++ []
def dkwX1_barrier_3 : List UInt8 := [180, 0, 33, 42, 180, 0, 118, 182, 0, 128, 42, 180, 0, 56, 42, 180, 0, 118, 42, 180, 0, 43, 3, 3]
abbrev dktX1_barrier_3 : List UInt8 := dkwX1_barrier_3 ++ dktX1_barrier_4
def dkwX1_barrier_2 : List UInt8 := [42, 44, 180, 0, 124, 181, 0, 111, 42, 44, 180, 0, 125, 181, 0, 26, 42, 7, 182, 0, 107, 172, 42]
abbrev dktX1_barrier_2 : List UInt8 := dkwX1_barrier_2 ++ dktX1_barrier_3
def dkwX1_barrier_1 : List UInt8 := [181, 0, 96, 42, 3, 181, 0, 111, 42, 42, 180, 0, 22, 27, 182, 0, 114, 181, 0, 118, 167, 0, 26, 77]
abbrev dktX1_barrier_1 : List UInt8 := dkwX1_barrier_1 ++ dktX1_barrier_2
def dkwX1_barrier_0 : List UInt8 := [42, 182, 0, 93, 27, 3, 42, 180, 0, 96, 184, 0, 103, 154, 0, 9, 42, 5, 182, 0, 107, 172, 42, 3]
abbrev dktX1_barrier_0 : List UInt8 := dkwX1_barrier_0 ++ dktX1_barrier_1
theorem dksX1_barrier_0 : cX1_barrier.data.toList.drop 0 = dktX1_barrier_0 := by decide +kernel
theorem dksX1_barrier_1 : cX1_barrier.data.toList.drop 24 = dktX1_barrier_1 := dk_seg dksX1_barrier_0 24 rfl rfl
theorem dksX1_barrier_2 : cX1_barrier.data.toList.drop 48 = dktX1_barrier_2 := dk_seg dksX1_barrier_1 24 rfl rfl
theorem dksX1_barrier_3 : cX1_barrier.data.toList.drop 71 = dktX1_barrier_3 := dk_seg dksX1_barrier_2 23 rfl rfl
theorem dksX1_barrier_4 : cX1_barrier.data.toList.drop 95 = dktX1_barrier_4 := dk_seg dksX1_barrier_3 24 rfl rfl
theorem dX1_barrier_0 : decode cX1_barrier 0 = .ok (.aload_n 0, 1) := dk_42 (dk_at dksX1_barrier_0 0 rfl rfl)
theorem dX1_barrier_1 : decode cX1_barrier 1 = .ok (.invokevirtual 93, 3) := dk_182 0 93 (dk_at dksX1_barrier_0 1 rfl rfl)
theorem dX1_barrier_4 : decode cX1_barrier 4 = .ok (.iload_n 1, 1) := dk_27 (dk_at dksX1_barrier_0 4 rfl rfl)
theorem dX1_barrier_5 : decode cX1_barrier 5 = .ok (.iconst 0, 1) := dk_3 (dk_at dksX1_barrier_0 5 rfl rfl)
theorem dX1_barrier_6 : decode cX1_barrier 6 = .ok (.aload_n 0, 1) := dk_42 (dk_at dksX1_barrier_0 6 rfl rfl)
theorem dX1_barrier_7 : decode cX1_barrier 7 = .ok (.getfield 96, 3) := dk_180 0 96 (dk_at dksX1_barrier_0 7 rfl rfl)
theorem dX1_barrier_10 : decode cX1_barrier 10 = .ok (.invokestatic 103, 3) := dk_184 0 103 (dk_at dksX1_barrier_0 10 rfl rfl)
theorem dX1_barrier_13 : decode cX1_barrier 13 = .ok (.ifCond .ne 9, 3) := dk_154 0 9 (dk_at dksX1_barrier_0 13 rfl rfl)
theorem dX1_barrier_16 : decode cX1_barrier 16 = .ok (.aload_n 0, 1) := dk_42 (dk_at dksX1_barrier_0 16 rfl rfl)
theorem dX1_barrier_17 : decode cX1_barrier 17 = .ok (.iconst 2, 1) := dk_5 (dk_at dksX1_barrier_0 17 rfl rfl)
theorem dX1_barrier_18 : decode cX1_barrier 18 = .ok (.invokevirtual 107, 3) := dk_182 0 107 (dk_at dksX1_barrier_0 18 rfl rfl)
theorem dX1_barrier_21 : decode cX1_barrier 21 = .ok (.ireturn, 1) := dk_172 (dk_at dksX1_barrier_0 21 rfl rfl)
theorem dX1_barrier_22 : decode cX1_barrier 22 = .ok (.aload_n 0, 1) := dk_42 (dk_at dksX1_barrier_0 22 rfl rfl)
theorem dX1_barrier_23 : decode cX1_barrier 23 = .ok (.iconst 0, 1) := dk_3 (dk_at dksX1_barrier_0 23 rfl rfl)
theorem dX1_barrier_24 : decode cX1_barrier 24 = .ok (.putfield 96, 3) := dk_181 0 96 (dk_at dksX1_barrier_1 0 rfl rfl)
theorem dX1_barrier_27 : decode cX1_barrier 27 = .ok (.aload_n 0, 1) := dk_42 (dk_at dksX1_barrier_1 3 rfl rfl)
theorem dX1_barrier_28 : decode cX1_barrier 28 = .ok (.iconst 0, 1) := dk_3 (dk_at dksX1_barrier_1 4 rfl rfl)
theorem dX1_barrier_29 : decode cX1_barrier 29 = .ok (.putfield 111, 3) := dk_181 0 111 (dk_at dksX1_barrier_1 5 rfl rfl)
theorem dX1_barrier_32 : decode cX1_barrier 32 = .ok (.aload_n 0, 1) := dk_42 (dk_at dksX1_barrier_1 8 rfl rfl)
theorem dX1_barrier_33 : decode cX1_barrier 33 = .ok (.aload_n 0, 1) := dk_42 (dk_at dksX1_barrier_1 9 rfl rfl)
theorem dX1_barrier_34 : decode cX1_barrier 34 = .ok (.getfield 22, 3) := dk_180 0 22 (dk_at dksX1_barrier_1 10 rfl rfl)
theorem dX1_barrier_37 : decode cX1_barrier 37 = .ok (.iload_n 1, 1) := dk_27 (dk_at dksX1_barrier_1 13 rfl rfl)
theorem dX1_barrier_38 : decode cX1_barrier 38 = .ok (.invokevirtual 114, 3) := dk_182 0 114 (dk_at dksX1_barrier_1 14 rfl rfl)
theorem dX1_barrier_41 : decode cX1_barrier 41 = .ok (.putfield 118, 3) := dk_181 0 118 (dk_at dksX1_barrier_1 17 rfl rfl)
theorem dX1_barrier_44 : decode cX1_barrier 44 = .ok (.goto 26, 3) := dk_167 0 26 (dk_at dksX1_barrier_1 20 rfl rfl)
theorem dX1_barrier_47 : decode cX1_barrier 47 = .ok (.astore_n 2, 1) := dk_77 (dk_at dksX1_barrier_1 23 rfl rfl)
theorem dX1_barrier_48 : decode cX1_barrier 48 = .ok (.aload_n 0, 1) := dk_42 (dk_at dksX1_barrier_2 0 rfl rfl)
theorem dX1_barrier_49 : decode cX1_barrier 49 = .ok (.aload_n 2, 1) := dk_44 (dk_at dksX1_barrier_2 1 rfl rfl)
theorem dX1_barrier_50 : decode cX1_barrier 50 = .ok (.getfield 124, 3) := dk_180 0 124 (dk_at dksX1_barrier_2 2 rfl rfl)
theorem dX1_barrier_53 : decode cX1_barrier 53 = .ok (.putfield 111, 3) := dk_181 0 111 (dk_at dksX1_barrier_2 5 rfl rfl)
theorem dX1_barrier_56 : decode cX1_barrier 56 = .ok (.aload_n 0, 1) := dk_42 (dk_at dksX1_barrier_2 8 rfl rfl)
theorem dX1_barrier_57 : decode cX1_barrier 57 = .ok (.aload_n 2, 1) := dk_44 (dk_at dksX1_barrier_2 9 rfl rfl)
theorem dX1_barrier_58 : decode cX1_barrier 58 = .ok (.getfield 125, 3) := dk_180 0 125 (dk_at dksX1_barrier_2 10 rfl rfl)
theorem dX1_barrier_61 : decode cX1_barrier 61 = .ok (.putfield 26, 3) := dk_181 0 26 (dk_at dksX1_barrier_2 13 rfl rfl)
theorem dX1_barrier_64 : decode cX1_barrier 64 = .ok (.aload_n 0, 1) := dk_42 (dk_at dksX1_barrier_2 16 rfl rfl)
theorem dX1_barrier_65 : decode cX1_barrier 65 = .ok (.iconst 4, 1) := dk_7 (dk_at dksX1_barrier_2 17 rfl rfl)
theorem dX1_barrier_66 : decode cX1_barrier 66 = .ok (.invokevirtual 107, 3) := dk_182 0 107 (dk_at dksX1_barrier_2 18 rfl rfl)
theorem dX1_barrier_69 : decode cX1_barrier 69 = .ok (.ireturn, 1) := dk_172 (dk_at dksX1_barrier_2 21 rfl rfl)
theorem dX1_barrier_70 : decode cX1_barrier 70 = .ok (.aload_n 0, 1) := dk_42 (dk_at dksX1_barrier_2 22 rfl rfl)
theorem dX1_barrier_71 : decode cX1_barrier 71 = .ok (.getfield 33, 3) := dk_180 0 33 (dk_at dksX1_barrier_3 0 rfl rfl)
theorem dX1_barrier_74 : decode cX1_barrier 74 = .ok (.aload_n 0, 1) := dk_42 (dk_at dksX1_barrier_3 3 rfl rfl)
theorem dX1_barrier_75 : decode cX1_barrier 75 = .ok (.getfield 118, 3) := dk_180 0 118 (dk_at dksX1_barrier_3 4 rfl rfl)
theorem dX1_barrier_78 : decode cX1_barrier 78 = .ok (.invokevirtual 128, 3) := dk_182 0 128 (dk_at dksX1_barrier_3 7 rfl rfl)
theorem dX1_barrier_81 : decode cX1_barrier 81 = .ok (.aload_n 0, 1) := dk_42 (dk_at dksX1_barrier_3 10 rfl rfl)
theorem dX1_barrier_82 : decode cX1_barrier 82 = .ok (.getfield 56, 3) := dk_180 0 56 (dk_at dksX1_barrier_3 11 rfl rfl)
theorem dX1_barrier_85 : decode cX1_barrier 85 = .ok (.aload_n 0, 1) := dk_42 (dk_at dksX1_barrier_3 14 rfl rfl)
theorem dX1_barrier_86 : decode cX1_barrier 86 = .ok (.getfield 118, 3) := dk_180 0 118 (dk_at dksX1_barrier_3 15 rfl rfl)
theorem dX1_barrier_89 : decode cX1_barrier 89 = .ok (.aload_n 0, 1) := dk_42 (dk_at dksX1_barrier_3 18 rfl rfl)
theorem dX1_barrier_90 : decode cX1_barrier 90 = .ok (.getfield 43, 3) := dk_180 0 43 (dk_at dksX1_barrier_3 19 rfl rfl)
theorem dX1_barrier_93 : decode cX1_barrier 93 = .ok (.iconst 0, 1) := dk_3 (dk_at dksX1_barrier_3 22 rfl rfl)
theorem dX1_barrier_94 : decode cX1_barrier 94 = .ok (.iconst 0, 1) := dk_3 (dk_at dksX1_barrier_3 23 rfl rfl)
theorem dX1_barrier_95 : decode cX1_barrier 95 = .ok (.invokevirtual 132, 3) := dk_182 0 132 (dk_at dksX1_barrier_4 0 rfl rfl)
theorem dX1_barrier_98 : decode cX1_barrier 98 = .ok (.pop, 1) := dk_87 (dk_at dksX1_barrier_4 3 rfl rfl)
theorem dX1_barrier_99 : decode cX1_barrier 99 = .ok (.aload_n 0, 1) := dk_42 (dk_at dksX1_barrier_4 4 rfl rfl)
theorem dX1_barrier_100 : decode cX1_barrier 100 = .ok (.iconst 0, 1) := dk_3 (dk_at dksX1_barrier_4 5 rfl rfl)
theorem dX1_barrier_101 : decode cX1_barrier 101 = .ok (.putfield 136, 3) := dk_181 0 136 (dk_at dksX1_barrier_4 6 rfl rfl)
theorem dX1_barrier_104 : decode cX1_barrier 104 = .ok (.aload_n 0, 1) := dk_42 (dk_at dksX1_barrier_4 9 rfl rfl)
theorem dX1_barrier_105 : decode cX1_barrier 105 = .ok (.iconst 0, 1) := dk_3 (dk_at dksX1_barrier_4 10 rfl rfl)
theorem dX1_barrier_106 : decode cX1_barrier 106 = .ok (.putfield 139, 3) := dk_181 0 139 (dk_at dksX1_barrier_4 11 rfl rfl)
theorem dX1_barrier_109 : decode cX1_barrier 109 = .ok (.aload_n 0, 1) := dk_42 (dk_at dksX1_barrier_4 14 rfl rfl)
theorem dX1_barrier_110 : decode cX1_barrier 110 = .ok (.getfield 118, 3) := dk_180 0 118 (dk_at dksX1_barrier_4 15 rfl rfl)
theorem dX1_barrier_113 : decode cX1_barrier 113 = .ok (.getfield 142, 3) := dk_180 0 142 (dk_at dksX1_barrier_4 18 rfl rfl)
theorem dX1_barrier_116 : decode cX1_barrier 116 = .ok (.ireturn, 1) := dk_172 (dk_at dksX1_barrier_4 21 rfl rfl)
abbrev cX1_anew : ByteArray := prog_1_method_6_code
def yX1_anew : MethodName := ⟨RX1, "anew", "()V"⟩
def dkwX1_anew_0 : List UInt8 := [42, 3, 181, 0, 90, 42, 2, 181, 0, 26, 177]
abbrev dktX1_anew_0 : List UInt8 := dkwX1_anew_0 ++ []
theorem dksX1_anew_0 : cX1_anew.data.toList.drop 0 = dktX1_anew_0 := by decide +kernel
theorem dX1_anew_0 : decode cX1_anew 0 = .ok (.aload_n 0, 1) := dk_42 (dk_at dksX1_anew_0 0 rfl rfl)
theorem dX1_anew_1 : decode cX1_anew 1 = .ok (.iconst 0, 1) := dk_3 (dk_at dksX1_anew_0 1 rfl rfl)
theorem dX1_anew_2 : decode cX1_anew 2 = .ok (.putfield 90, 3) := dk_181 0 90 (dk_at dksX1_anew_0 2 rfl rfl)
theorem dX1_anew_5 : decode cX1_anew 5 = .ok (.aload_n 0, 1) := dk_42 (dk_at dksX1_anew_0 5 rfl rfl)
theorem dX1_anew_6 : decode cX1_anew 6 = .ok (.iconst (-1), 1) := dk_2 (dk_at dksX1_anew_0 6 rfl rfl)
theorem dX1_anew_7 : decode cX1_anew 7 = .ok (.putfield 26, 3) := dk_181 0 26 (dk_at dksX1_anew_0 7 rfl rfl)
theorem dX1_anew_10 : decode cX1_anew 10 = .ok (.return_, 1) := dk_177 (dk_at dksX1_anew_0 10 rfl rfl)
abbrev cX1_in : ByteArray := prog_1_method_1_code
def yX1_in : MethodName := ⟨RX1, "in", "(III)Z"⟩
def dkwX1_in_0 : List UInt8 := [26, 27, 161, 0, 12, 26, 28, 163, 0, 7, 4, 167, 0, 4, 3, 172]
abbrev dktX1_in_0 : List UInt8 := dkwX1_in_0 ++ []
theorem dksX1_in_0 : cX1_in.data.toList.drop 0 = dktX1_in_0 := by decide +kernel
theorem dX1_in_0 : decode cX1_in 0 = .ok (.iload_n 0, 1) := dk_26 (dk_at dksX1_in_0 0 rfl rfl)
theorem dX1_in_1 : decode cX1_in 1 = .ok (.iload_n 1, 1) := dk_27 (dk_at dksX1_in_0 1 rfl rfl)
theorem dX1_in_2 : decode cX1_in 2 = .ok (.if_icmp .lt 12, 3) := dk_161 0 12 (dk_at dksX1_in_0 2 rfl rfl)
theorem dX1_in_5 : decode cX1_in 5 = .ok (.iload_n 0, 1) := dk_26 (dk_at dksX1_in_0 5 rfl rfl)
theorem dX1_in_6 : decode cX1_in 6 = .ok (.iload_n 2, 1) := dk_28 (dk_at dksX1_in_0 6 rfl rfl)
theorem dX1_in_7 : decode cX1_in 7 = .ok (.if_icmp .gt 7, 3) := dk_163 0 7 (dk_at dksX1_in_0 7 rfl rfl)
theorem dX1_in_10 : decode cX1_in 10 = .ok (.iconst 1, 1) := dk_4 (dk_at dksX1_in_0 10 rfl rfl)
theorem dX1_in_11 : decode cX1_in 11 = .ok (.goto 4, 3) := dk_167 0 4 (dk_at dksX1_in_0 11 rfl rfl)
theorem dX1_in_14 : decode cX1_in 14 = .ok (.iconst 0, 1) := dk_3 (dk_at dksX1_in_0 14 rfl rfl)
theorem dX1_in_15 : decode cX1_in 15 = .ok (.ireturn, 1) := dk_172 (dk_at dksX1_in_0 15 rfl rfl)
abbrev cX1_no : ByteArray := prog_1_method_7_code
def yX1_no : MethodName := ⟨RX1, "no", "(I)I"⟩
def dkwX1_no_0 : List UInt8 := [42, 27, 181, 0, 90, 2, 172]
abbrev dktX1_no_0 : List UInt8 := dkwX1_no_0 ++ []
theorem dksX1_no_0 : cX1_no.data.toList.drop 0 = dktX1_no_0 := by decide +kernel
theorem dX1_no_0 : decode cX1_no 0 = .ok (.aload_n 0, 1) := dk_42 (dk_at dksX1_no_0 0 rfl rfl)
theorem dX1_no_1 : decode cX1_no 1 = .ok (.iload_n 1, 1) := dk_27 (dk_at dksX1_no_0 1 rfl rfl)
theorem dX1_no_2 : decode cX1_no 2 = .ok (.putfield 90, 3) := dk_181 0 90 (dk_at dksX1_no_0 2 rfl rfl)
theorem dX1_no_5 : decode cX1_no 5 = .ok (.iconst (-1), 1) := dk_2 (dk_at dksX1_no_0 5 rfl rfl)
theorem dX1_no_6 : decode cX1_no 6 = .ok (.ireturn, 1) := dk_172 (dk_at dksX1_no_0 6 rfl rfl)
abbrev cX1_has : ByteArray := prog_1_method_2_code
def yX1_has : MethodName := ⟨RX1, "has", "(II)Z"⟩
def dkwX1_has_0 : List UInt8 := [26, 27, 122, 4, 126, 4, 160, 0, 7, 4, 167, 0, 4, 3, 172]
abbrev dktX1_has_0 : List UInt8 := dkwX1_has_0 ++ []
theorem dksX1_has_0 : cX1_has.data.toList.drop 0 = dktX1_has_0 := by decide +kernel
theorem dX1_has_0 : decode cX1_has 0 = .ok (.iload_n 0, 1) := dk_26 (dk_at dksX1_has_0 0 rfl rfl)
theorem dX1_has_1 : decode cX1_has 1 = .ok (.iload_n 1, 1) := dk_27 (dk_at dksX1_has_0 1 rfl rfl)
theorem dX1_has_2 : decode cX1_has 2 = .ok (.ishr, 1) := dk_122 (dk_at dksX1_has_0 2 rfl rfl)
theorem dX1_has_3 : decode cX1_has 3 = .ok (.iconst 1, 1) := dk_4 (dk_at dksX1_has_0 3 rfl rfl)
theorem dX1_has_4 : decode cX1_has 4 = .ok (.iand, 1) := dk_126 (dk_at dksX1_has_0 4 rfl rfl)
theorem dX1_has_5 : decode cX1_has 5 = .ok (.iconst 1, 1) := dk_4 (dk_at dksX1_has_0 5 rfl rfl)
theorem dX1_has_6 : decode cX1_has 6 = .ok (.if_icmp .ne 7, 3) := dk_160 0 7 (dk_at dksX1_has_0 6 rfl rfl)
theorem dX1_has_9 : decode cX1_has 9 = .ok (.iconst 1, 1) := dk_4 (dk_at dksX1_has_0 9 rfl rfl)
theorem dX1_has_10 : decode cX1_has 10 = .ok (.goto 4, 3) := dk_167 0 4 (dk_at dksX1_has_0 10 rfl rfl)
theorem dX1_has_13 : decode cX1_has 13 = .ok (.iconst 0, 1) := dk_3 (dk_at dksX1_has_0 13 rfl rfl)
theorem dX1_has_14 : decode cX1_has 14 = .ok (.ireturn, 1) := dk_172 (dk_at dksX1_has_0 14 rfl rfl)
abbrev cX1_fault : ByteArray := prog_1_method_13_code
def yX1_fault : MethodName := ⟨RX1, "fault", "()I"⟩
theorem dX1_fault_0 : decode cX1_fault 0 = .ok (.aload_n 0, 1) := by decide +kernel
theorem dX1_fault_1 : decode cX1_fault 1 = .ok (.getfield 111, 3) := by decide +kernel
theorem dX1_fault_4 : decode cX1_fault 4 = .ok (.ireturn, 1) := by decide +kernel
abbrev cX1_where : ByteArray := prog_1_method_14_code
def yX1_where : MethodName := ⟨RX1, "where", "()I"⟩
def dkwX1_where_0 : List UInt8 := [42, 180, 0, 90, 7, 160, 0, 10, 42, 180, 0, 26, 167, 0, 4, 2, 172]
abbrev dktX1_where_0 : List UInt8 := dkwX1_where_0 ++ []
theorem dksX1_where_0 : cX1_where.data.toList.drop 0 = dktX1_where_0 := by decide +kernel
theorem dX1_where_0 : decode cX1_where 0 = .ok (.aload_n 0, 1) := dk_42 (dk_at dksX1_where_0 0 rfl rfl)
theorem dX1_where_1 : decode cX1_where 1 = .ok (.getfield 90, 3) := dk_180 0 90 (dk_at dksX1_where_0 1 rfl rfl)
theorem dX1_where_4 : decode cX1_where 4 = .ok (.iconst 4, 1) := dk_7 (dk_at dksX1_where_0 4 rfl rfl)
theorem dX1_where_5 : decode cX1_where 5 = .ok (.if_icmp .ne 10, 3) := dk_160 0 10 (dk_at dksX1_where_0 5 rfl rfl)
theorem dX1_where_8 : decode cX1_where 8 = .ok (.aload_n 0, 1) := dk_42 (dk_at dksX1_where_0 8 rfl rfl)
theorem dX1_where_9 : decode cX1_where 9 = .ok (.getfield 26, 3) := dk_180 0 26 (dk_at dksX1_where_0 9 rfl rfl)
theorem dX1_where_12 : decode cX1_where 12 = .ok (.goto 4, 3) := dk_167 0 4 (dk_at dksX1_where_0 12 rfl rfl)
theorem dX1_where_15 : decode cX1_where 15 = .ok (.iconst (-1), 1) := dk_2 (dk_at dksX1_where_0 15 rfl rfl)
theorem dX1_where_16 : decode cX1_where 16 = .ok (.ireturn, 1) := dk_172 (dk_at dksX1_where_0 16 rfl rfl)
abbrev cX1_good : ByteArray := prog_1_method_18_code
def yX1_good : MethodName := ⟨RX1, "good", "(II)I"⟩
def dkwX1_good_6 : List UInt8 := [172]
abbrev dktX1_good_6 : List UInt8 := dkwX1_good_6 ++ []
def dkwX1_good_5 : List UInt8 := [180, 0, 33, 180, 0, 186, 27, 184, 0, 189, 153, 0, 7, 4, 167, 0, 4, 3, 172, 42, 4, 182, 0, 107]
abbrev dktX1_good_5 : List UInt8 := dkwX1_good_5 ++ dktX1_good_6
def dkwX1_good_4 : List UInt8 := [172, 45, 180, 0, 176, 172, 45, 180, 0, 179, 172, 42, 180, 0, 33, 180, 0, 182, 27, 46, 172, 42]
abbrev dktX1_good_4 : List UInt8 := dkwX1_good_4 ++ dktX1_good_5
def dkwX1_good_3 : List UInt8 := [45, 182, 0, 161, 172, 45, 182, 0, 167, 199, 0, 8, 16, 254, 167, 0, 10, 45, 182, 0, 167, 180, 0, 171]
abbrev dktX1_good_3 : List UInt8 := dkwX1_good_3 ++ dktX1_good_4
def dkwX1_good_2 : List UInt8 := [170, 0, 0, 0, 0, 0, 104, 0, 0, 0, 0, 0, 0, 0, 5, 0, 0, 0, 39, 0, 0, 0, 44, 0, 0, 0, 64, 0, 0, 0, 69, 0, 0, 0, 74, 0, 0, 0, 84]
abbrev dktX1_good_2 : List UInt8 := dkwX1_good_2 ++ dktX1_good_3
def dkwX1_good_1 : List UInt8 := [180, 0, 157, 27, 50, 78, 28]
abbrev dktX1_good_1 : List UInt8 := dkwX1_good_1 ++ dktX1_good_2
def dkwX1_good_0 : List UInt8 := [42, 182, 0, 93, 42, 27, 182, 0, 153, 154, 0, 9, 42, 4, 182, 0, 107, 172, 42, 180, 0, 118]
abbrev dktX1_good_0 : List UInt8 := dkwX1_good_0 ++ dktX1_good_1
theorem dksX1_good_0 : cX1_good.data.toList.drop 0 = dktX1_good_0 := by decide +kernel
theorem dksX1_good_1 : cX1_good.data.toList.drop 22 = dktX1_good_1 := dk_seg dksX1_good_0 22 rfl rfl
theorem dksX1_good_2 : cX1_good.data.toList.drop 29 = dktX1_good_2 := dk_seg dksX1_good_1 7 rfl rfl
theorem dksX1_good_3 : cX1_good.data.toList.drop 68 = dktX1_good_3 := dk_seg dksX1_good_2 39 rfl rfl
theorem dksX1_good_4 : cX1_good.data.toList.drop 92 = dktX1_good_4 := dk_seg dksX1_good_3 24 rfl rfl
theorem dksX1_good_5 : cX1_good.data.toList.drop 114 = dktX1_good_5 := dk_seg dksX1_good_4 22 rfl rfl
theorem dksX1_good_6 : cX1_good.data.toList.drop 138 = dktX1_good_6 := dk_seg dksX1_good_5 24 rfl rfl
theorem dX1_good_0 : decode cX1_good 0 = .ok (.aload_n 0, 1) := dk_42 (dk_at dksX1_good_0 0 rfl rfl)
theorem dX1_good_1 : decode cX1_good 1 = .ok (.invokevirtual 93, 3) := dk_182 0 93 (dk_at dksX1_good_0 1 rfl rfl)
theorem dX1_good_4 : decode cX1_good 4 = .ok (.aload_n 0, 1) := dk_42 (dk_at dksX1_good_0 4 rfl rfl)
theorem dX1_good_5 : decode cX1_good 5 = .ok (.iload_n 1, 1) := dk_27 (dk_at dksX1_good_0 5 rfl rfl)
theorem dX1_good_6 : decode cX1_good 6 = .ok (.invokevirtual 153, 3) := dk_182 0 153 (dk_at dksX1_good_0 6 rfl rfl)
theorem dX1_good_9 : decode cX1_good 9 = .ok (.ifCond .ne 9, 3) := dk_154 0 9 (dk_at dksX1_good_0 9 rfl rfl)
theorem dX1_good_12 : decode cX1_good 12 = .ok (.aload_n 0, 1) := dk_42 (dk_at dksX1_good_0 12 rfl rfl)
theorem dX1_good_13 : decode cX1_good 13 = .ok (.iconst 1, 1) := dk_4 (dk_at dksX1_good_0 13 rfl rfl)
theorem dX1_good_14 : decode cX1_good 14 = .ok (.invokevirtual 107, 3) := dk_182 0 107 (dk_at dksX1_good_0 14 rfl rfl)
theorem dX1_good_17 : decode cX1_good 17 = .ok (.ireturn, 1) := dk_172 (dk_at dksX1_good_0 17 rfl rfl)
theorem dX1_good_18 : decode cX1_good 18 = .ok (.aload_n 0, 1) := dk_42 (dk_at dksX1_good_0 18 rfl rfl)
theorem dX1_good_19 : decode cX1_good 19 = .ok (.getfield 118, 3) := dk_180 0 118 (dk_at dksX1_good_0 19 rfl rfl)
theorem dX1_good_22 : decode cX1_good 22 = .ok (.getfield 157, 3) := dk_180 0 157 (dk_at dksX1_good_1 0 rfl rfl)
theorem dX1_good_25 : decode cX1_good 25 = .ok (.iload_n 1, 1) := dk_27 (dk_at dksX1_good_1 3 rfl rfl)
theorem dX1_good_26 : decode cX1_good 26 = .ok (.aaload, 1) := dk_50 (dk_at dksX1_good_1 4 rfl rfl)
theorem dX1_good_27 : decode cX1_good 27 = .ok (.astore_n 3, 1) := dk_78 (dk_at dksX1_good_1 5 rfl rfl)
theorem dX1_good_28 : decode cX1_good 28 = .ok (.iload_n 2, 1) := dk_28 (dk_at dksX1_good_1 6 rfl rfl)
theorem dX1_good_29 : decode cX1_good 29 = .ok (.tableswitch 104 0 5 #[39, 44, 64, 69, 74, 84], 39) := by decide +kernel
theorem dX1_good_68 : decode cX1_good 68 = .ok (.aload_n 3, 1) := dk_45 (dk_at dksX1_good_3 0 rfl rfl)
theorem dX1_good_69 : decode cX1_good 69 = .ok (.invokevirtual 161, 3) := dk_182 0 161 (dk_at dksX1_good_3 1 rfl rfl)
theorem dX1_good_72 : decode cX1_good 72 = .ok (.ireturn, 1) := dk_172 (dk_at dksX1_good_3 4 rfl rfl)
theorem dX1_good_73 : decode cX1_good 73 = .ok (.aload_n 3, 1) := dk_45 (dk_at dksX1_good_3 5 rfl rfl)
theorem dX1_good_74 : decode cX1_good 74 = .ok (.invokevirtual 167, 3) := dk_182 0 167 (dk_at dksX1_good_3 6 rfl rfl)
theorem dX1_good_77 : decode cX1_good 77 = .ok (.ifnonnull 8, 3) := dk_199 0 8 (dk_at dksX1_good_3 9 rfl rfl)
theorem dX1_good_80 : decode cX1_good 80 = .ok (.bipush (-2), 2) := dk_16 254 (dk_at dksX1_good_3 12 rfl rfl)
theorem dX1_good_82 : decode cX1_good 82 = .ok (.goto 10, 3) := dk_167 0 10 (dk_at dksX1_good_3 14 rfl rfl)
theorem dX1_good_85 : decode cX1_good 85 = .ok (.aload_n 3, 1) := dk_45 (dk_at dksX1_good_3 17 rfl rfl)
theorem dX1_good_86 : decode cX1_good 86 = .ok (.invokevirtual 167, 3) := dk_182 0 167 (dk_at dksX1_good_3 18 rfl rfl)
theorem dX1_good_89 : decode cX1_good 89 = .ok (.getfield 171, 3) := dk_180 0 171 (dk_at dksX1_good_3 21 rfl rfl)
theorem dX1_good_92 : decode cX1_good 92 = .ok (.ireturn, 1) := dk_172 (dk_at dksX1_good_4 0 rfl rfl)
theorem dX1_good_93 : decode cX1_good 93 = .ok (.aload_n 3, 1) := dk_45 (dk_at dksX1_good_4 1 rfl rfl)
theorem dX1_good_94 : decode cX1_good 94 = .ok (.getfield 176, 3) := dk_180 0 176 (dk_at dksX1_good_4 2 rfl rfl)
theorem dX1_good_97 : decode cX1_good 97 = .ok (.ireturn, 1) := dk_172 (dk_at dksX1_good_4 5 rfl rfl)
theorem dX1_good_98 : decode cX1_good 98 = .ok (.aload_n 3, 1) := dk_45 (dk_at dksX1_good_4 6 rfl rfl)
theorem dX1_good_99 : decode cX1_good 99 = .ok (.getfield 179, 3) := dk_180 0 179 (dk_at dksX1_good_4 7 rfl rfl)
theorem dX1_good_102 : decode cX1_good 102 = .ok (.ireturn, 1) := dk_172 (dk_at dksX1_good_4 10 rfl rfl)
theorem dX1_good_103 : decode cX1_good 103 = .ok (.aload_n 0, 1) := dk_42 (dk_at dksX1_good_4 11 rfl rfl)
theorem dX1_good_104 : decode cX1_good 104 = .ok (.getfield 33, 3) := dk_180 0 33 (dk_at dksX1_good_4 12 rfl rfl)
theorem dX1_good_107 : decode cX1_good 107 = .ok (.getfield 182, 3) := dk_180 0 182 (dk_at dksX1_good_4 15 rfl rfl)
theorem dX1_good_110 : decode cX1_good 110 = .ok (.iload_n 1, 1) := dk_27 (dk_at dksX1_good_4 18 rfl rfl)
theorem dX1_good_111 : decode cX1_good 111 = .ok (.iaload, 1) := dk_46 (dk_at dksX1_good_4 19 rfl rfl)
theorem dX1_good_112 : decode cX1_good 112 = .ok (.ireturn, 1) := dk_172 (dk_at dksX1_good_4 20 rfl rfl)
theorem dX1_good_113 : decode cX1_good 113 = .ok (.aload_n 0, 1) := dk_42 (dk_at dksX1_good_4 21 rfl rfl)
theorem dX1_good_114 : decode cX1_good 114 = .ok (.getfield 33, 3) := dk_180 0 33 (dk_at dksX1_good_5 0 rfl rfl)
theorem dX1_good_117 : decode cX1_good 117 = .ok (.getfield 186, 3) := dk_180 0 186 (dk_at dksX1_good_5 3 rfl rfl)
theorem dX1_good_120 : decode cX1_good 120 = .ok (.iload_n 1, 1) := dk_27 (dk_at dksX1_good_5 6 rfl rfl)
theorem dX1_good_121 : decode cX1_good 121 = .ok (.invokestatic 189, 3) := dk_184 0 189 (dk_at dksX1_good_5 7 rfl rfl)
theorem dX1_good_124 : decode cX1_good 124 = .ok (.ifCond .eq 7, 3) := dk_153 0 7 (dk_at dksX1_good_5 10 rfl rfl)
theorem dX1_good_127 : decode cX1_good 127 = .ok (.iconst 1, 1) := dk_4 (dk_at dksX1_good_5 13 rfl rfl)
theorem dX1_good_128 : decode cX1_good 128 = .ok (.goto 4, 3) := dk_167 0 4 (dk_at dksX1_good_5 14 rfl rfl)
theorem dX1_good_131 : decode cX1_good 131 = .ok (.iconst 0, 1) := dk_3 (dk_at dksX1_good_5 17 rfl rfl)
theorem dX1_good_132 : decode cX1_good 132 = .ok (.ireturn, 1) := dk_172 (dk_at dksX1_good_5 18 rfl rfl)
theorem dX1_good_133 : decode cX1_good 133 = .ok (.aload_n 0, 1) := dk_42 (dk_at dksX1_good_5 19 rfl rfl)
theorem dX1_good_134 : decode cX1_good 134 = .ok (.iconst 1, 1) := dk_4 (dk_at dksX1_good_5 20 rfl rfl)
theorem dX1_good_135 : decode cX1_good 135 = .ok (.invokevirtual 107, 3) := dk_182 0 107 (dk_at dksX1_good_5 21 rfl rfl)
theorem dX1_good_138 : decode cX1_good 138 = .ok (.ireturn, 1) := dk_172 (dk_at dksX1_good_6 0 rfl rfl)
abbrev cX1_isGood : ByteArray := prog_1_method_15_code
def yX1_isGood : MethodName := ⟨RX1, "isGood", "(I)Z"⟩
def dkwX1_isGood_1 : List UInt8 := [4, 167, 0, 4, 3, 172]
abbrev dktX1_isGood_1 : List UInt8 := dkwX1_isGood_1 ++ []
def dkwX1_isGood_0 : List UInt8 := [42, 180, 0, 118, 198, 0, 24, 27, 3, 42, 180, 0, 118, 180, 0, 142, 4, 100, 184, 0, 103, 153, 0, 7]
abbrev dktX1_isGood_0 : List UInt8 := dkwX1_isGood_0 ++ dktX1_isGood_1
theorem dksX1_isGood_0 : cX1_isGood.data.toList.drop 0 = dktX1_isGood_0 := by decide +kernel
theorem dksX1_isGood_1 : cX1_isGood.data.toList.drop 24 = dktX1_isGood_1 := dk_seg dksX1_isGood_0 24 rfl rfl
theorem dX1_isGood_0 : decode cX1_isGood 0 = .ok (.aload_n 0, 1) := dk_42 (dk_at dksX1_isGood_0 0 rfl rfl)
theorem dX1_isGood_1 : decode cX1_isGood 1 = .ok (.getfield 118, 3) := dk_180 0 118 (dk_at dksX1_isGood_0 1 rfl rfl)
theorem dX1_isGood_4 : decode cX1_isGood 4 = .ok (.ifnull 24, 3) := dk_198 0 24 (dk_at dksX1_isGood_0 4 rfl rfl)
theorem dX1_isGood_7 : decode cX1_isGood 7 = .ok (.iload_n 1, 1) := dk_27 (dk_at dksX1_isGood_0 7 rfl rfl)
theorem dX1_isGood_8 : decode cX1_isGood 8 = .ok (.iconst 0, 1) := dk_3 (dk_at dksX1_isGood_0 8 rfl rfl)
theorem dX1_isGood_9 : decode cX1_isGood 9 = .ok (.aload_n 0, 1) := dk_42 (dk_at dksX1_isGood_0 9 rfl rfl)
theorem dX1_isGood_10 : decode cX1_isGood 10 = .ok (.getfield 118, 3) := dk_180 0 118 (dk_at dksX1_isGood_0 10 rfl rfl)
theorem dX1_isGood_13 : decode cX1_isGood 13 = .ok (.getfield 142, 3) := dk_180 0 142 (dk_at dksX1_isGood_0 13 rfl rfl)
theorem dX1_isGood_16 : decode cX1_isGood 16 = .ok (.iconst 1, 1) := dk_4 (dk_at dksX1_isGood_0 16 rfl rfl)
theorem dX1_isGood_17 : decode cX1_isGood 17 = .ok (.isub, 1) := dk_100 (dk_at dksX1_isGood_0 17 rfl rfl)
theorem dX1_isGood_18 : decode cX1_isGood 18 = .ok (.invokestatic 103, 3) := dk_184 0 103 (dk_at dksX1_isGood_0 18 rfl rfl)
theorem dX1_isGood_21 : decode cX1_isGood 21 = .ok (.ifCond .eq 7, 3) := dk_153 0 7 (dk_at dksX1_isGood_0 21 rfl rfl)
theorem dX1_isGood_24 : decode cX1_isGood 24 = .ok (.iconst 1, 1) := dk_4 (dk_at dksX1_isGood_1 0 rfl rfl)
theorem dX1_isGood_25 : decode cX1_isGood 25 = .ok (.goto 4, 3) := dk_167 0 4 (dk_at dksX1_isGood_1 1 rfl rfl)
theorem dX1_isGood_28 : decode cX1_isGood 28 = .ok (.iconst 0, 1) := dk_3 (dk_at dksX1_isGood_1 4 rfl rfl)
theorem dX1_isGood_29 : decode cX1_isGood 29 = .ok (.ireturn, 1) := dk_172 (dk_at dksX1_isGood_1 5 rfl rfl)
abbrev cX1_traveller : ByteArray := prog_1_method_19_code
def yX1_traveller : MethodName := ⟨RX1, "traveller", "(II)I"⟩
def dkwX1_traveller_3 : List UInt8 := [180, 0, 33, 180, 0, 208, 27, 46, 172, 42, 180, 0, 33, 27, 182, 0, 211, 172, 42, 4, 182, 0, 107, 172]
abbrev dktX1_traveller_3 : List UInt8 := dkwX1_traveller_3 ++ []
def dkwX1_traveller_2 : List UInt8 := [42, 180, 0, 118, 180, 0, 196, 27, 50, 180, 0, 200, 172, 42, 180, 0, 33, 27, 182, 0, 205, 172, 42]
abbrev dktX1_traveller_2 : List UInt8 := dkwX1_traveller_2 ++ dktX1_traveller_3
def dkwX1_traveller_1 : List UInt8 := [170, 0, 0, 0, 70, 0, 0, 0, 0, 0, 0, 0, 3, 0, 0, 0, 29, 0, 0, 0, 42, 0, 0, 0, 51, 0, 0, 0, 61]
abbrev dktX1_traveller_1 : List UInt8 := dkwX1_traveller_1 ++ dktX1_traveller_2
def dkwX1_traveller_0 : List UInt8 := [42, 182, 0, 93, 42, 27, 182, 0, 193, 154, 0, 9, 42, 4, 182, 0, 107, 172, 28]
abbrev dktX1_traveller_0 : List UInt8 := dkwX1_traveller_0 ++ dktX1_traveller_1
theorem dksX1_traveller_0 : cX1_traveller.data.toList.drop 0 = dktX1_traveller_0 := by decide +kernel
theorem dksX1_traveller_1 : cX1_traveller.data.toList.drop 19 = dktX1_traveller_1 := dk_seg dksX1_traveller_0 19 rfl rfl
theorem dksX1_traveller_2 : cX1_traveller.data.toList.drop 48 = dktX1_traveller_2 := dk_seg dksX1_traveller_1 29 rfl rfl
theorem dksX1_traveller_3 : cX1_traveller.data.toList.drop 71 = dktX1_traveller_3 := dk_seg dksX1_traveller_2 23 rfl rfl
theorem dX1_traveller_0 : decode cX1_traveller 0 = .ok (.aload_n 0, 1) := dk_42 (dk_at dksX1_traveller_0 0 rfl rfl)
theorem dX1_traveller_1 : decode cX1_traveller 1 = .ok (.invokevirtual 93, 3) := dk_182 0 93 (dk_at dksX1_traveller_0 1 rfl rfl)
theorem dX1_traveller_4 : decode cX1_traveller 4 = .ok (.aload_n 0, 1) := dk_42 (dk_at dksX1_traveller_0 4 rfl rfl)
theorem dX1_traveller_5 : decode cX1_traveller 5 = .ok (.iload_n 1, 1) := dk_27 (dk_at dksX1_traveller_0 5 rfl rfl)
theorem dX1_traveller_6 : decode cX1_traveller 6 = .ok (.invokevirtual 193, 3) := dk_182 0 193 (dk_at dksX1_traveller_0 6 rfl rfl)
theorem dX1_traveller_9 : decode cX1_traveller 9 = .ok (.ifCond .ne 9, 3) := dk_154 0 9 (dk_at dksX1_traveller_0 9 rfl rfl)
theorem dX1_traveller_12 : decode cX1_traveller 12 = .ok (.aload_n 0, 1) := dk_42 (dk_at dksX1_traveller_0 12 rfl rfl)
theorem dX1_traveller_13 : decode cX1_traveller 13 = .ok (.iconst 1, 1) := dk_4 (dk_at dksX1_traveller_0 13 rfl rfl)
theorem dX1_traveller_14 : decode cX1_traveller 14 = .ok (.invokevirtual 107, 3) := dk_182 0 107 (dk_at dksX1_traveller_0 14 rfl rfl)
theorem dX1_traveller_17 : decode cX1_traveller 17 = .ok (.ireturn, 1) := dk_172 (dk_at dksX1_traveller_0 17 rfl rfl)
theorem dX1_traveller_18 : decode cX1_traveller 18 = .ok (.iload_n 2, 1) := dk_28 (dk_at dksX1_traveller_0 18 rfl rfl)
theorem dX1_traveller_19 : decode cX1_traveller 19 = .ok (.tableswitch 70 0 3 #[29, 42, 51, 61], 29) := by decide +kernel
theorem dX1_traveller_48 : decode cX1_traveller 48 = .ok (.aload_n 0, 1) := dk_42 (dk_at dksX1_traveller_2 0 rfl rfl)
theorem dX1_traveller_49 : decode cX1_traveller 49 = .ok (.getfield 118, 3) := dk_180 0 118 (dk_at dksX1_traveller_2 1 rfl rfl)
theorem dX1_traveller_52 : decode cX1_traveller 52 = .ok (.getfield 196, 3) := dk_180 0 196 (dk_at dksX1_traveller_2 4 rfl rfl)
theorem dX1_traveller_55 : decode cX1_traveller 55 = .ok (.iload_n 1, 1) := dk_27 (dk_at dksX1_traveller_2 7 rfl rfl)
theorem dX1_traveller_56 : decode cX1_traveller 56 = .ok (.aaload, 1) := dk_50 (dk_at dksX1_traveller_2 8 rfl rfl)
theorem dX1_traveller_57 : decode cX1_traveller 57 = .ok (.getfield 200, 3) := dk_180 0 200 (dk_at dksX1_traveller_2 9 rfl rfl)
theorem dX1_traveller_60 : decode cX1_traveller 60 = .ok (.ireturn, 1) := dk_172 (dk_at dksX1_traveller_2 12 rfl rfl)
theorem dX1_traveller_61 : decode cX1_traveller 61 = .ok (.aload_n 0, 1) := dk_42 (dk_at dksX1_traveller_2 13 rfl rfl)
theorem dX1_traveller_62 : decode cX1_traveller 62 = .ok (.getfield 33, 3) := dk_180 0 33 (dk_at dksX1_traveller_2 14 rfl rfl)
theorem dX1_traveller_65 : decode cX1_traveller 65 = .ok (.iload_n 1, 1) := dk_27 (dk_at dksX1_traveller_2 17 rfl rfl)
theorem dX1_traveller_66 : decode cX1_traveller 66 = .ok (.invokevirtual 205, 3) := dk_182 0 205 (dk_at dksX1_traveller_2 18 rfl rfl)
theorem dX1_traveller_69 : decode cX1_traveller 69 = .ok (.ireturn, 1) := dk_172 (dk_at dksX1_traveller_2 21 rfl rfl)
theorem dX1_traveller_70 : decode cX1_traveller 70 = .ok (.aload_n 0, 1) := dk_42 (dk_at dksX1_traveller_2 22 rfl rfl)
theorem dX1_traveller_71 : decode cX1_traveller 71 = .ok (.getfield 33, 3) := dk_180 0 33 (dk_at dksX1_traveller_3 0 rfl rfl)
theorem dX1_traveller_74 : decode cX1_traveller 74 = .ok (.getfield 208, 3) := dk_180 0 208 (dk_at dksX1_traveller_3 3 rfl rfl)
theorem dX1_traveller_77 : decode cX1_traveller 77 = .ok (.iload_n 1, 1) := dk_27 (dk_at dksX1_traveller_3 6 rfl rfl)
theorem dX1_traveller_78 : decode cX1_traveller 78 = .ok (.iaload, 1) := dk_46 (dk_at dksX1_traveller_3 7 rfl rfl)
theorem dX1_traveller_79 : decode cX1_traveller 79 = .ok (.ireturn, 1) := dk_172 (dk_at dksX1_traveller_3 8 rfl rfl)
theorem dX1_traveller_80 : decode cX1_traveller 80 = .ok (.aload_n 0, 1) := dk_42 (dk_at dksX1_traveller_3 9 rfl rfl)
theorem dX1_traveller_81 : decode cX1_traveller 81 = .ok (.getfield 33, 3) := dk_180 0 33 (dk_at dksX1_traveller_3 10 rfl rfl)
theorem dX1_traveller_84 : decode cX1_traveller 84 = .ok (.iload_n 1, 1) := dk_27 (dk_at dksX1_traveller_3 13 rfl rfl)
theorem dX1_traveller_85 : decode cX1_traveller 85 = .ok (.invokevirtual 211, 3) := dk_182 0 211 (dk_at dksX1_traveller_3 14 rfl rfl)
theorem dX1_traveller_88 : decode cX1_traveller 88 = .ok (.ireturn, 1) := dk_172 (dk_at dksX1_traveller_3 17 rfl rfl)
theorem dX1_traveller_89 : decode cX1_traveller 89 = .ok (.aload_n 0, 1) := dk_42 (dk_at dksX1_traveller_3 18 rfl rfl)
theorem dX1_traveller_90 : decode cX1_traveller 90 = .ok (.iconst 1, 1) := dk_4 (dk_at dksX1_traveller_3 19 rfl rfl)
theorem dX1_traveller_91 : decode cX1_traveller 91 = .ok (.invokevirtual 107, 3) := dk_182 0 107 (dk_at dksX1_traveller_3 20 rfl rfl)
theorem dX1_traveller_94 : decode cX1_traveller 94 = .ok (.ireturn, 1) := dk_172 (dk_at dksX1_traveller_3 23 rfl rfl)
abbrev cX1_isPerson : ByteArray := prog_1_method_16_code
def yX1_isPerson : MethodName := ⟨RX1, "isPerson", "(I)Z"⟩
def dkwX1_isPerson_1 : List UInt8 := [4, 167, 0, 4, 3, 172]
abbrev dktX1_isPerson_1 : List UInt8 := dkwX1_isPerson_1 ++ []
def dkwX1_isPerson_0 : List UInt8 := [42, 180, 0, 118, 198, 0, 24, 27, 3, 42, 180, 0, 118, 180, 0, 147, 4, 100, 184, 0, 103, 153, 0, 7]
abbrev dktX1_isPerson_0 : List UInt8 := dkwX1_isPerson_0 ++ dktX1_isPerson_1
theorem dksX1_isPerson_0 : cX1_isPerson.data.toList.drop 0 = dktX1_isPerson_0 := by decide +kernel
theorem dksX1_isPerson_1 : cX1_isPerson.data.toList.drop 24 = dktX1_isPerson_1 := dk_seg dksX1_isPerson_0 24 rfl rfl
theorem dX1_isPerson_0 : decode cX1_isPerson 0 = .ok (.aload_n 0, 1) := dk_42 (dk_at dksX1_isPerson_0 0 rfl rfl)
theorem dX1_isPerson_1 : decode cX1_isPerson 1 = .ok (.getfield 118, 3) := dk_180 0 118 (dk_at dksX1_isPerson_0 1 rfl rfl)
theorem dX1_isPerson_4 : decode cX1_isPerson 4 = .ok (.ifnull 24, 3) := dk_198 0 24 (dk_at dksX1_isPerson_0 4 rfl rfl)
theorem dX1_isPerson_7 : decode cX1_isPerson 7 = .ok (.iload_n 1, 1) := dk_27 (dk_at dksX1_isPerson_0 7 rfl rfl)
theorem dX1_isPerson_8 : decode cX1_isPerson 8 = .ok (.iconst 0, 1) := dk_3 (dk_at dksX1_isPerson_0 8 rfl rfl)
theorem dX1_isPerson_9 : decode cX1_isPerson 9 = .ok (.aload_n 0, 1) := dk_42 (dk_at dksX1_isPerson_0 9 rfl rfl)
theorem dX1_isPerson_10 : decode cX1_isPerson 10 = .ok (.getfield 118, 3) := dk_180 0 118 (dk_at dksX1_isPerson_0 10 rfl rfl)
theorem dX1_isPerson_13 : decode cX1_isPerson 13 = .ok (.getfield 147, 3) := dk_180 0 147 (dk_at dksX1_isPerson_0 13 rfl rfl)
theorem dX1_isPerson_16 : decode cX1_isPerson 16 = .ok (.iconst 1, 1) := dk_4 (dk_at dksX1_isPerson_0 16 rfl rfl)
theorem dX1_isPerson_17 : decode cX1_isPerson 17 = .ok (.isub, 1) := dk_100 (dk_at dksX1_isPerson_0 17 rfl rfl)
theorem dX1_isPerson_18 : decode cX1_isPerson 18 = .ok (.invokestatic 103, 3) := dk_184 0 103 (dk_at dksX1_isPerson_0 18 rfl rfl)
theorem dX1_isPerson_21 : decode cX1_isPerson 21 = .ok (.ifCond .eq 7, 3) := dk_153 0 7 (dk_at dksX1_isPerson_0 21 rfl rfl)
theorem dX1_isPerson_24 : decode cX1_isPerson 24 = .ok (.iconst 1, 1) := dk_4 (dk_at dksX1_isPerson_1 0 rfl rfl)
theorem dX1_isPerson_25 : decode cX1_isPerson 25 = .ok (.goto 4, 3) := dk_167 0 4 (dk_at dksX1_isPerson_1 1 rfl rfl)
theorem dX1_isPerson_28 : decode cX1_isPerson 28 = .ok (.iconst 0, 1) := dk_3 (dk_at dksX1_isPerson_1 4 rfl rfl)
theorem dX1_isPerson_29 : decode cX1_isPerson 29 = .ok (.ireturn, 1) := dk_172 (dk_at dksX1_isPerson_1 5 rfl rfl)
abbrev cX1_gate : ByteArray := prog_1_method_20_code
def yX1_gate : MethodName := ⟨RX1, "gate", "(II)I"⟩
def dkwX1_gate_3 : List UInt8 := [45, 180, 0, 220, 172, 45, 180, 0, 225, 172, 45, 180, 0, 228, 172, 42, 4, 182, 0, 107, 172]
abbrev dktX1_gate_3 : List UInt8 := dkwX1_gate_3 ++ []
def dkwX1_gate_2 : List UInt8 := [170, 0, 0, 0, 0, 0, 42, 0, 0, 0, 0, 0, 0, 0, 2, 0, 0, 0, 27, 0, 0, 0, 32, 0, 0, 0, 37]
abbrev dktX1_gate_2 : List UInt8 := dkwX1_gate_2 ++ dktX1_gate_3
def dkwX1_gate_1 : List UInt8 := [180, 0, 216, 27, 50, 78, 28]
abbrev dktX1_gate_1 : List UInt8 := dkwX1_gate_1 ++ dktX1_gate_2
def dkwX1_gate_0 : List UInt8 := [42, 182, 0, 93, 42, 27, 182, 0, 213, 154, 0, 9, 42, 4, 182, 0, 107, 172, 42, 180, 0, 118]
abbrev dktX1_gate_0 : List UInt8 := dkwX1_gate_0 ++ dktX1_gate_1
theorem dksX1_gate_0 : cX1_gate.data.toList.drop 0 = dktX1_gate_0 := by decide +kernel
theorem dksX1_gate_1 : cX1_gate.data.toList.drop 22 = dktX1_gate_1 := dk_seg dksX1_gate_0 22 rfl rfl
theorem dksX1_gate_2 : cX1_gate.data.toList.drop 29 = dktX1_gate_2 := dk_seg dksX1_gate_1 7 rfl rfl
theorem dksX1_gate_3 : cX1_gate.data.toList.drop 56 = dktX1_gate_3 := dk_seg dksX1_gate_2 27 rfl rfl
theorem dX1_gate_0 : decode cX1_gate 0 = .ok (.aload_n 0, 1) := dk_42 (dk_at dksX1_gate_0 0 rfl rfl)
theorem dX1_gate_1 : decode cX1_gate 1 = .ok (.invokevirtual 93, 3) := dk_182 0 93 (dk_at dksX1_gate_0 1 rfl rfl)
theorem dX1_gate_4 : decode cX1_gate 4 = .ok (.aload_n 0, 1) := dk_42 (dk_at dksX1_gate_0 4 rfl rfl)
theorem dX1_gate_5 : decode cX1_gate 5 = .ok (.iload_n 1, 1) := dk_27 (dk_at dksX1_gate_0 5 rfl rfl)
theorem dX1_gate_6 : decode cX1_gate 6 = .ok (.invokevirtual 213, 3) := dk_182 0 213 (dk_at dksX1_gate_0 6 rfl rfl)
theorem dX1_gate_9 : decode cX1_gate 9 = .ok (.ifCond .ne 9, 3) := dk_154 0 9 (dk_at dksX1_gate_0 9 rfl rfl)
theorem dX1_gate_12 : decode cX1_gate 12 = .ok (.aload_n 0, 1) := dk_42 (dk_at dksX1_gate_0 12 rfl rfl)
theorem dX1_gate_13 : decode cX1_gate 13 = .ok (.iconst 1, 1) := dk_4 (dk_at dksX1_gate_0 13 rfl rfl)
theorem dX1_gate_14 : decode cX1_gate 14 = .ok (.invokevirtual 107, 3) := dk_182 0 107 (dk_at dksX1_gate_0 14 rfl rfl)
theorem dX1_gate_17 : decode cX1_gate 17 = .ok (.ireturn, 1) := dk_172 (dk_at dksX1_gate_0 17 rfl rfl)
theorem dX1_gate_18 : decode cX1_gate 18 = .ok (.aload_n 0, 1) := dk_42 (dk_at dksX1_gate_0 18 rfl rfl)
theorem dX1_gate_19 : decode cX1_gate 19 = .ok (.getfield 118, 3) := dk_180 0 118 (dk_at dksX1_gate_0 19 rfl rfl)
theorem dX1_gate_22 : decode cX1_gate 22 = .ok (.getfield 216, 3) := dk_180 0 216 (dk_at dksX1_gate_1 0 rfl rfl)
theorem dX1_gate_25 : decode cX1_gate 25 = .ok (.iload_n 1, 1) := dk_27 (dk_at dksX1_gate_1 3 rfl rfl)
theorem dX1_gate_26 : decode cX1_gate 26 = .ok (.aaload, 1) := dk_50 (dk_at dksX1_gate_1 4 rfl rfl)
theorem dX1_gate_27 : decode cX1_gate 27 = .ok (.astore_n 3, 1) := dk_78 (dk_at dksX1_gate_1 5 rfl rfl)
theorem dX1_gate_28 : decode cX1_gate 28 = .ok (.iload_n 2, 1) := dk_28 (dk_at dksX1_gate_1 6 rfl rfl)
theorem dX1_gate_29 : decode cX1_gate 29 = .ok (.tableswitch 42 0 2 #[27, 32, 37], 27) := by decide +kernel
theorem dX1_gate_56 : decode cX1_gate 56 = .ok (.aload_n 3, 1) := dk_45 (dk_at dksX1_gate_3 0 rfl rfl)
theorem dX1_gate_57 : decode cX1_gate 57 = .ok (.getfield 220, 3) := dk_180 0 220 (dk_at dksX1_gate_3 1 rfl rfl)
theorem dX1_gate_60 : decode cX1_gate 60 = .ok (.ireturn, 1) := dk_172 (dk_at dksX1_gate_3 4 rfl rfl)
theorem dX1_gate_61 : decode cX1_gate 61 = .ok (.aload_n 3, 1) := dk_45 (dk_at dksX1_gate_3 5 rfl rfl)
theorem dX1_gate_62 : decode cX1_gate 62 = .ok (.getfield 225, 3) := dk_180 0 225 (dk_at dksX1_gate_3 6 rfl rfl)
theorem dX1_gate_65 : decode cX1_gate 65 = .ok (.ireturn, 1) := dk_172 (dk_at dksX1_gate_3 9 rfl rfl)
theorem dX1_gate_66 : decode cX1_gate 66 = .ok (.aload_n 3, 1) := dk_45 (dk_at dksX1_gate_3 10 rfl rfl)
theorem dX1_gate_67 : decode cX1_gate 67 = .ok (.getfield 228, 3) := dk_180 0 228 (dk_at dksX1_gate_3 11 rfl rfl)
theorem dX1_gate_70 : decode cX1_gate 70 = .ok (.ireturn, 1) := dk_172 (dk_at dksX1_gate_3 14 rfl rfl)
theorem dX1_gate_71 : decode cX1_gate 71 = .ok (.aload_n 0, 1) := dk_42 (dk_at dksX1_gate_3 15 rfl rfl)
theorem dX1_gate_72 : decode cX1_gate 72 = .ok (.iconst 1, 1) := dk_4 (dk_at dksX1_gate_3 16 rfl rfl)
theorem dX1_gate_73 : decode cX1_gate 73 = .ok (.invokevirtual 107, 3) := dk_182 0 107 (dk_at dksX1_gate_3 17 rfl rfl)
theorem dX1_gate_76 : decode cX1_gate 76 = .ok (.ireturn, 1) := dk_172 (dk_at dksX1_gate_3 20 rfl rfl)
abbrev cX1_isGate : ByteArray := prog_1_method_17_code
def yX1_isGate : MethodName := ⟨RX1, "isGate", "(I)Z"⟩
def dkwX1_isGate_1 : List UInt8 := [4, 167, 0, 4, 3, 172]
abbrev dktX1_isGate_1 : List UInt8 := dkwX1_isGate_1 ++ []
def dkwX1_isGate_0 : List UInt8 := [42, 180, 0, 118, 198, 0, 24, 27, 3, 42, 180, 0, 118, 180, 0, 150, 4, 100, 184, 0, 103, 153, 0, 7]
abbrev dktX1_isGate_0 : List UInt8 := dkwX1_isGate_0 ++ dktX1_isGate_1
theorem dksX1_isGate_0 : cX1_isGate.data.toList.drop 0 = dktX1_isGate_0 := by decide +kernel
theorem dksX1_isGate_1 : cX1_isGate.data.toList.drop 24 = dktX1_isGate_1 := dk_seg dksX1_isGate_0 24 rfl rfl
theorem dX1_isGate_0 : decode cX1_isGate 0 = .ok (.aload_n 0, 1) := dk_42 (dk_at dksX1_isGate_0 0 rfl rfl)
theorem dX1_isGate_1 : decode cX1_isGate 1 = .ok (.getfield 118, 3) := dk_180 0 118 (dk_at dksX1_isGate_0 1 rfl rfl)
theorem dX1_isGate_4 : decode cX1_isGate 4 = .ok (.ifnull 24, 3) := dk_198 0 24 (dk_at dksX1_isGate_0 4 rfl rfl)
theorem dX1_isGate_7 : decode cX1_isGate 7 = .ok (.iload_n 1, 1) := dk_27 (dk_at dksX1_isGate_0 7 rfl rfl)
theorem dX1_isGate_8 : decode cX1_isGate 8 = .ok (.iconst 0, 1) := dk_3 (dk_at dksX1_isGate_0 8 rfl rfl)
theorem dX1_isGate_9 : decode cX1_isGate 9 = .ok (.aload_n 0, 1) := dk_42 (dk_at dksX1_isGate_0 9 rfl rfl)
theorem dX1_isGate_10 : decode cX1_isGate 10 = .ok (.getfield 118, 3) := dk_180 0 118 (dk_at dksX1_isGate_0 10 rfl rfl)
theorem dX1_isGate_13 : decode cX1_isGate 13 = .ok (.getfield 150, 3) := dk_180 0 150 (dk_at dksX1_isGate_0 13 rfl rfl)
theorem dX1_isGate_16 : decode cX1_isGate 16 = .ok (.iconst 1, 1) := dk_4 (dk_at dksX1_isGate_0 16 rfl rfl)
theorem dX1_isGate_17 : decode cX1_isGate 17 = .ok (.isub, 1) := dk_100 (dk_at dksX1_isGate_0 17 rfl rfl)
theorem dX1_isGate_18 : decode cX1_isGate 18 = .ok (.invokestatic 103, 3) := dk_184 0 103 (dk_at dksX1_isGate_0 18 rfl rfl)
theorem dX1_isGate_21 : decode cX1_isGate 21 = .ok (.ifCond .eq 7, 3) := dk_153 0 7 (dk_at dksX1_isGate_0 21 rfl rfl)
theorem dX1_isGate_24 : decode cX1_isGate 24 = .ok (.iconst 1, 1) := dk_4 (dk_at dksX1_isGate_1 0 rfl rfl)
theorem dX1_isGate_25 : decode cX1_isGate 25 = .ok (.goto 4, 3) := dk_167 0 4 (dk_at dksX1_isGate_1 1 rfl rfl)
theorem dX1_isGate_28 : decode cX1_isGate 28 = .ok (.iconst 0, 1) := dk_3 (dk_at dksX1_isGate_1 4 rfl rfl)
theorem dX1_isGate_29 : decode cX1_isGate 29 = .ok (.ireturn, 1) := dk_172 (dk_at dksX1_isGate_1 5 rfl rfl)
abbrev cX1_age : ByteArray := prog_1_method_23_code
def yX1_age : MethodName := ⟨RX1, "age", "(II)I"⟩
def dkwX1_age_1 : List UInt8 := [167, 0, 20, 42, 180, 0, 118, 180, 0, 157, 27, 50, 42, 28, 182, 0, 238, 182, 0, 241, 172]
abbrev dktX1_age_1 : List UInt8 := dkwX1_age_1 ++ []
def dkwX1_age_0 : List UInt8 := [42, 182, 0, 93, 42, 42, 27, 182, 0, 153, 28, 182, 0, 234, 62, 29, 153, 0, 11, 42, 29, 182, 0, 107]
abbrev dktX1_age_0 : List UInt8 := dkwX1_age_0 ++ dktX1_age_1
theorem dksX1_age_0 : cX1_age.data.toList.drop 0 = dktX1_age_0 := by decide +kernel
theorem dksX1_age_1 : cX1_age.data.toList.drop 24 = dktX1_age_1 := dk_seg dksX1_age_0 24 rfl rfl
theorem dX1_age_0 : decode cX1_age 0 = .ok (.aload_n 0, 1) := dk_42 (dk_at dksX1_age_0 0 rfl rfl)
theorem dX1_age_1 : decode cX1_age 1 = .ok (.invokevirtual 93, 3) := dk_182 0 93 (dk_at dksX1_age_0 1 rfl rfl)
theorem dX1_age_4 : decode cX1_age 4 = .ok (.aload_n 0, 1) := dk_42 (dk_at dksX1_age_0 4 rfl rfl)
theorem dX1_age_5 : decode cX1_age 5 = .ok (.aload_n 0, 1) := dk_42 (dk_at dksX1_age_0 5 rfl rfl)
theorem dX1_age_6 : decode cX1_age 6 = .ok (.iload_n 1, 1) := dk_27 (dk_at dksX1_age_0 6 rfl rfl)
theorem dX1_age_7 : decode cX1_age 7 = .ok (.invokevirtual 153, 3) := dk_182 0 153 (dk_at dksX1_age_0 7 rfl rfl)
theorem dX1_age_10 : decode cX1_age 10 = .ok (.iload_n 2, 1) := dk_28 (dk_at dksX1_age_0 10 rfl rfl)
theorem dX1_age_11 : decode cX1_age 11 = .ok (.invokevirtual 234, 3) := dk_182 0 234 (dk_at dksX1_age_0 11 rfl rfl)
theorem dX1_age_14 : decode cX1_age 14 = .ok (.istore_n 3, 1) := dk_62 (dk_at dksX1_age_0 14 rfl rfl)
theorem dX1_age_15 : decode cX1_age 15 = .ok (.iload_n 3, 1) := dk_29 (dk_at dksX1_age_0 15 rfl rfl)
theorem dX1_age_16 : decode cX1_age 16 = .ok (.ifCond .eq 11, 3) := dk_153 0 11 (dk_at dksX1_age_0 16 rfl rfl)
theorem dX1_age_19 : decode cX1_age 19 = .ok (.aload_n 0, 1) := dk_42 (dk_at dksX1_age_0 19 rfl rfl)
theorem dX1_age_20 : decode cX1_age 20 = .ok (.iload_n 3, 1) := dk_29 (dk_at dksX1_age_0 20 rfl rfl)
theorem dX1_age_21 : decode cX1_age 21 = .ok (.invokevirtual 107, 3) := dk_182 0 107 (dk_at dksX1_age_0 21 rfl rfl)
theorem dX1_age_24 : decode cX1_age 24 = .ok (.goto 20, 3) := dk_167 0 20 (dk_at dksX1_age_1 0 rfl rfl)
theorem dX1_age_27 : decode cX1_age 27 = .ok (.aload_n 0, 1) := dk_42 (dk_at dksX1_age_1 3 rfl rfl)
theorem dX1_age_28 : decode cX1_age 28 = .ok (.getfield 118, 3) := dk_180 0 118 (dk_at dksX1_age_1 4 rfl rfl)
theorem dX1_age_31 : decode cX1_age 31 = .ok (.getfield 157, 3) := dk_180 0 157 (dk_at dksX1_age_1 7 rfl rfl)
theorem dX1_age_34 : decode cX1_age 34 = .ok (.iload_n 1, 1) := dk_27 (dk_at dksX1_age_1 10 rfl rfl)
theorem dX1_age_35 : decode cX1_age 35 = .ok (.aaload, 1) := dk_50 (dk_at dksX1_age_1 11 rfl rfl)
theorem dX1_age_36 : decode cX1_age 36 = .ok (.aload_n 0, 1) := dk_42 (dk_at dksX1_age_1 12 rfl rfl)
theorem dX1_age_37 : decode cX1_age 37 = .ok (.iload_n 2, 1) := dk_28 (dk_at dksX1_age_1 13 rfl rfl)
theorem dX1_age_38 : decode cX1_age 38 = .ok (.invokevirtual 238, 3) := dk_182 0 238 (dk_at dksX1_age_1 14 rfl rfl)
theorem dX1_age_41 : decode cX1_age 41 = .ok (.invokevirtual 241, 3) := dk_182 0 241 (dk_at dksX1_age_1 17 rfl rfl)
theorem dX1_age_44 : decode cX1_age 44 = .ok (.ireturn, 1) := dk_172 (dk_at dksX1_age_1 20 rfl rfl)
abbrev cX1_why : ByteArray := prog_1_method_21_code
def yX1_why : MethodName := ⟨RX1, "why", "(ZI)I"⟩
def dkwX1_why_0 : List UInt8 := [27, 154, 0, 7, 4, 167, 0, 18, 28, 3, 16, 60, 184, 0, 103, 153, 0, 7, 3, 167, 0, 4, 5, 172]
abbrev dktX1_why_0 : List UInt8 := dkwX1_why_0 ++ []
theorem dksX1_why_0 : cX1_why.data.toList.drop 0 = dktX1_why_0 := by decide +kernel
theorem dX1_why_0 : decode cX1_why 0 = .ok (.iload_n 1, 1) := dk_27 (dk_at dksX1_why_0 0 rfl rfl)
theorem dX1_why_1 : decode cX1_why 1 = .ok (.ifCond .ne 7, 3) := dk_154 0 7 (dk_at dksX1_why_0 1 rfl rfl)
theorem dX1_why_4 : decode cX1_why 4 = .ok (.iconst 1, 1) := dk_4 (dk_at dksX1_why_0 4 rfl rfl)
theorem dX1_why_5 : decode cX1_why 5 = .ok (.goto 18, 3) := dk_167 0 18 (dk_at dksX1_why_0 5 rfl rfl)
theorem dX1_why_8 : decode cX1_why 8 = .ok (.iload_n 2, 1) := dk_28 (dk_at dksX1_why_0 8 rfl rfl)
theorem dX1_why_9 : decode cX1_why 9 = .ok (.iconst 0, 1) := dk_3 (dk_at dksX1_why_0 9 rfl rfl)
theorem dX1_why_10 : decode cX1_why 10 = .ok (.bipush 60, 2) := dk_16 60 (dk_at dksX1_why_0 10 rfl rfl)
theorem dX1_why_12 : decode cX1_why 12 = .ok (.invokestatic 103, 3) := dk_184 0 103 (dk_at dksX1_why_0 12 rfl rfl)
theorem dX1_why_15 : decode cX1_why 15 = .ok (.ifCond .eq 7, 3) := dk_153 0 7 (dk_at dksX1_why_0 15 rfl rfl)
theorem dX1_why_18 : decode cX1_why 18 = .ok (.iconst 0, 1) := dk_3 (dk_at dksX1_why_0 18 rfl rfl)
theorem dX1_why_19 : decode cX1_why 19 = .ok (.goto 4, 3) := dk_167 0 4 (dk_at dksX1_why_0 19 rfl rfl)
theorem dX1_why_22 : decode cX1_why 22 = .ok (.iconst 2, 1) := dk_5 (dk_at dksX1_why_0 22 rfl rfl)
theorem dX1_why_23 : decode cX1_why 23 = .ok (.ireturn, 1) := dk_172 (dk_at dksX1_why_0 23 rfl rfl)
abbrev cX1_on : ByteArray := prog_1_method_22_code
def yX1_on : MethodName := ⟨RX1, "on", "(I)I"⟩
def dkwX1_on_0 : List UInt8 := [42, 180, 0, 33, 180, 0, 231, 27, 96, 172]
abbrev dktX1_on_0 : List UInt8 := dkwX1_on_0 ++ []
theorem dksX1_on_0 : cX1_on.data.toList.drop 0 = dktX1_on_0 := by decide +kernel
theorem dX1_on_0 : decode cX1_on 0 = .ok (.aload_n 0, 1) := dk_42 (dk_at dksX1_on_0 0 rfl rfl)
theorem dX1_on_1 : decode cX1_on 1 = .ok (.getfield 33, 3) := dk_180 0 33 (dk_at dksX1_on_0 1 rfl rfl)
theorem dX1_on_4 : decode cX1_on 4 = .ok (.getfield 231, 3) := dk_180 0 231 (dk_at dksX1_on_0 4 rfl rfl)
theorem dX1_on_7 : decode cX1_on 7 = .ok (.iload_n 1, 1) := dk_27 (dk_at dksX1_on_0 7 rfl rfl)
theorem dX1_on_8 : decode cX1_on 8 = .ok (.iadd, 1) := dk_96 (dk_at dksX1_on_0 8 rfl rfl)
theorem dX1_on_9 : decode cX1_on 9 = .ok (.ireturn, 1) := dk_172 (dk_at dksX1_on_0 9 rfl rfl)
abbrev cX1_worth : ByteArray := prog_1_method_24_code
def yX1_worth : MethodName := ⟨RX1, "worth", "(II)I"⟩
def dkwX1_worth_1 : List UInt8 := [167, 0, 20, 42, 180, 0, 118, 180, 0, 157, 27, 50, 42, 28, 182, 0, 238, 182, 0, 244, 172]
abbrev dktX1_worth_1 : List UInt8 := dkwX1_worth_1 ++ []
def dkwX1_worth_0 : List UInt8 := [42, 182, 0, 93, 42, 42, 27, 182, 0, 153, 28, 182, 0, 234, 62, 29, 153, 0, 11, 42, 29, 182, 0, 107]
abbrev dktX1_worth_0 : List UInt8 := dkwX1_worth_0 ++ dktX1_worth_1
theorem dksX1_worth_0 : cX1_worth.data.toList.drop 0 = dktX1_worth_0 := by decide +kernel
theorem dksX1_worth_1 : cX1_worth.data.toList.drop 24 = dktX1_worth_1 := dk_seg dksX1_worth_0 24 rfl rfl
theorem dX1_worth_0 : decode cX1_worth 0 = .ok (.aload_n 0, 1) := dk_42 (dk_at dksX1_worth_0 0 rfl rfl)
theorem dX1_worth_1 : decode cX1_worth 1 = .ok (.invokevirtual 93, 3) := dk_182 0 93 (dk_at dksX1_worth_0 1 rfl rfl)
theorem dX1_worth_4 : decode cX1_worth 4 = .ok (.aload_n 0, 1) := dk_42 (dk_at dksX1_worth_0 4 rfl rfl)
theorem dX1_worth_5 : decode cX1_worth 5 = .ok (.aload_n 0, 1) := dk_42 (dk_at dksX1_worth_0 5 rfl rfl)
theorem dX1_worth_6 : decode cX1_worth 6 = .ok (.iload_n 1, 1) := dk_27 (dk_at dksX1_worth_0 6 rfl rfl)
theorem dX1_worth_7 : decode cX1_worth 7 = .ok (.invokevirtual 153, 3) := dk_182 0 153 (dk_at dksX1_worth_0 7 rfl rfl)
theorem dX1_worth_10 : decode cX1_worth 10 = .ok (.iload_n 2, 1) := dk_28 (dk_at dksX1_worth_0 10 rfl rfl)
theorem dX1_worth_11 : decode cX1_worth 11 = .ok (.invokevirtual 234, 3) := dk_182 0 234 (dk_at dksX1_worth_0 11 rfl rfl)
theorem dX1_worth_14 : decode cX1_worth 14 = .ok (.istore_n 3, 1) := dk_62 (dk_at dksX1_worth_0 14 rfl rfl)
theorem dX1_worth_15 : decode cX1_worth 15 = .ok (.iload_n 3, 1) := dk_29 (dk_at dksX1_worth_0 15 rfl rfl)
theorem dX1_worth_16 : decode cX1_worth 16 = .ok (.ifCond .eq 11, 3) := dk_153 0 11 (dk_at dksX1_worth_0 16 rfl rfl)
theorem dX1_worth_19 : decode cX1_worth 19 = .ok (.aload_n 0, 1) := dk_42 (dk_at dksX1_worth_0 19 rfl rfl)
theorem dX1_worth_20 : decode cX1_worth 20 = .ok (.iload_n 3, 1) := dk_29 (dk_at dksX1_worth_0 20 rfl rfl)
theorem dX1_worth_21 : decode cX1_worth 21 = .ok (.invokevirtual 107, 3) := dk_182 0 107 (dk_at dksX1_worth_0 21 rfl rfl)
theorem dX1_worth_24 : decode cX1_worth 24 = .ok (.goto 20, 3) := dk_167 0 20 (dk_at dksX1_worth_1 0 rfl rfl)
theorem dX1_worth_27 : decode cX1_worth 27 = .ok (.aload_n 0, 1) := dk_42 (dk_at dksX1_worth_1 3 rfl rfl)
theorem dX1_worth_28 : decode cX1_worth 28 = .ok (.getfield 118, 3) := dk_180 0 118 (dk_at dksX1_worth_1 4 rfl rfl)
theorem dX1_worth_31 : decode cX1_worth 31 = .ok (.getfield 157, 3) := dk_180 0 157 (dk_at dksX1_worth_1 7 rfl rfl)
theorem dX1_worth_34 : decode cX1_worth 34 = .ok (.iload_n 1, 1) := dk_27 (dk_at dksX1_worth_1 10 rfl rfl)
theorem dX1_worth_35 : decode cX1_worth 35 = .ok (.aaload, 1) := dk_50 (dk_at dksX1_worth_1 11 rfl rfl)
theorem dX1_worth_36 : decode cX1_worth 36 = .ok (.aload_n 0, 1) := dk_42 (dk_at dksX1_worth_1 12 rfl rfl)
theorem dX1_worth_37 : decode cX1_worth 37 = .ok (.iload_n 2, 1) := dk_28 (dk_at dksX1_worth_1 13 rfl rfl)
theorem dX1_worth_38 : decode cX1_worth 38 = .ok (.invokevirtual 238, 3) := dk_182 0 238 (dk_at dksX1_worth_1 14 rfl rfl)
theorem dX1_worth_41 : decode cX1_worth 41 = .ok (.invokevirtual 244, 3) := dk_182 0 244 (dk_at dksX1_worth_1 17 rfl rfl)
theorem dX1_worth_44 : decode cX1_worth 44 = .ok (.ireturn, 1) := dk_172 (dk_at dksX1_worth_1 20 rfl rfl)
abbrev cX1_duty : ByteArray := prog_1_method_25_code
def yX1_duty : MethodName := ⟨RX1, "duty", "(II)I"⟩
def dkwX1_duty_2 : List UInt8 := [172]
abbrev dktX1_duty_2 : List UInt8 := dkwX1_duty_2 ++ []
def dkwX1_duty_1 : List UInt8 := [167, 0, 24, 42, 180, 0, 118, 180, 0, 157, 27, 50, 42, 28, 182, 0, 238, 42, 180, 0, 43, 182, 0, 247]
abbrev dktX1_duty_1 : List UInt8 := dkwX1_duty_1 ++ dktX1_duty_2
def dkwX1_duty_0 : List UInt8 := [42, 182, 0, 93, 42, 42, 27, 182, 0, 153, 28, 182, 0, 234, 62, 29, 153, 0, 11, 42, 29, 182, 0, 107]
abbrev dktX1_duty_0 : List UInt8 := dkwX1_duty_0 ++ dktX1_duty_1
theorem dksX1_duty_0 : cX1_duty.data.toList.drop 0 = dktX1_duty_0 := by decide +kernel
theorem dksX1_duty_1 : cX1_duty.data.toList.drop 24 = dktX1_duty_1 := dk_seg dksX1_duty_0 24 rfl rfl
theorem dksX1_duty_2 : cX1_duty.data.toList.drop 48 = dktX1_duty_2 := dk_seg dksX1_duty_1 24 rfl rfl
theorem dX1_duty_0 : decode cX1_duty 0 = .ok (.aload_n 0, 1) := dk_42 (dk_at dksX1_duty_0 0 rfl rfl)
theorem dX1_duty_1 : decode cX1_duty 1 = .ok (.invokevirtual 93, 3) := dk_182 0 93 (dk_at dksX1_duty_0 1 rfl rfl)
theorem dX1_duty_4 : decode cX1_duty 4 = .ok (.aload_n 0, 1) := dk_42 (dk_at dksX1_duty_0 4 rfl rfl)
theorem dX1_duty_5 : decode cX1_duty 5 = .ok (.aload_n 0, 1) := dk_42 (dk_at dksX1_duty_0 5 rfl rfl)
theorem dX1_duty_6 : decode cX1_duty 6 = .ok (.iload_n 1, 1) := dk_27 (dk_at dksX1_duty_0 6 rfl rfl)
theorem dX1_duty_7 : decode cX1_duty 7 = .ok (.invokevirtual 153, 3) := dk_182 0 153 (dk_at dksX1_duty_0 7 rfl rfl)
theorem dX1_duty_10 : decode cX1_duty 10 = .ok (.iload_n 2, 1) := dk_28 (dk_at dksX1_duty_0 10 rfl rfl)
theorem dX1_duty_11 : decode cX1_duty 11 = .ok (.invokevirtual 234, 3) := dk_182 0 234 (dk_at dksX1_duty_0 11 rfl rfl)
theorem dX1_duty_14 : decode cX1_duty 14 = .ok (.istore_n 3, 1) := dk_62 (dk_at dksX1_duty_0 14 rfl rfl)
theorem dX1_duty_15 : decode cX1_duty 15 = .ok (.iload_n 3, 1) := dk_29 (dk_at dksX1_duty_0 15 rfl rfl)
theorem dX1_duty_16 : decode cX1_duty 16 = .ok (.ifCond .eq 11, 3) := dk_153 0 11 (dk_at dksX1_duty_0 16 rfl rfl)
theorem dX1_duty_19 : decode cX1_duty 19 = .ok (.aload_n 0, 1) := dk_42 (dk_at dksX1_duty_0 19 rfl rfl)
theorem dX1_duty_20 : decode cX1_duty 20 = .ok (.iload_n 3, 1) := dk_29 (dk_at dksX1_duty_0 20 rfl rfl)
theorem dX1_duty_21 : decode cX1_duty 21 = .ok (.invokevirtual 107, 3) := dk_182 0 107 (dk_at dksX1_duty_0 21 rfl rfl)
theorem dX1_duty_24 : decode cX1_duty 24 = .ok (.goto 24, 3) := dk_167 0 24 (dk_at dksX1_duty_1 0 rfl rfl)
theorem dX1_duty_27 : decode cX1_duty 27 = .ok (.aload_n 0, 1) := dk_42 (dk_at dksX1_duty_1 3 rfl rfl)
theorem dX1_duty_28 : decode cX1_duty 28 = .ok (.getfield 118, 3) := dk_180 0 118 (dk_at dksX1_duty_1 4 rfl rfl)
theorem dX1_duty_31 : decode cX1_duty 31 = .ok (.getfield 157, 3) := dk_180 0 157 (dk_at dksX1_duty_1 7 rfl rfl)
theorem dX1_duty_34 : decode cX1_duty 34 = .ok (.iload_n 1, 1) := dk_27 (dk_at dksX1_duty_1 10 rfl rfl)
theorem dX1_duty_35 : decode cX1_duty 35 = .ok (.aaload, 1) := dk_50 (dk_at dksX1_duty_1 11 rfl rfl)
theorem dX1_duty_36 : decode cX1_duty 36 = .ok (.aload_n 0, 1) := dk_42 (dk_at dksX1_duty_1 12 rfl rfl)
theorem dX1_duty_37 : decode cX1_duty 37 = .ok (.iload_n 2, 1) := dk_28 (dk_at dksX1_duty_1 13 rfl rfl)
theorem dX1_duty_38 : decode cX1_duty 38 = .ok (.invokevirtual 238, 3) := dk_182 0 238 (dk_at dksX1_duty_1 14 rfl rfl)
theorem dX1_duty_41 : decode cX1_duty 41 = .ok (.aload_n 0, 1) := dk_42 (dk_at dksX1_duty_1 17 rfl rfl)
theorem dX1_duty_42 : decode cX1_duty 42 = .ok (.getfield 43, 3) := dk_180 0 43 (dk_at dksX1_duty_1 18 rfl rfl)
theorem dX1_duty_45 : decode cX1_duty 45 = .ok (.invokevirtual 247, 3) := dk_182 0 247 (dk_at dksX1_duty_1 21 rfl rfl)
theorem dX1_duty_48 : decode cX1_duty 48 = .ok (.ireturn, 1) := dk_172 (dk_at dksX1_duty_2 0 rfl rfl)
abbrev cX1_smell : ByteArray := prog_1_method_26_code
def yX1_smell : MethodName := ⟨RX1, "smell", "(II)I"⟩
def dkwX1_smell_1 : List UInt8 := [167, 0, 16, 42, 180, 0, 33, 27, 42, 28, 182, 0, 238, 182, 0, 251, 172]
abbrev dktX1_smell_1 : List UInt8 := dkwX1_smell_1 ++ []
def dkwX1_smell_0 : List UInt8 := [42, 182, 0, 93, 42, 42, 27, 182, 0, 153, 28, 182, 0, 234, 62, 29, 153, 0, 11, 42, 29, 182, 0, 107]
abbrev dktX1_smell_0 : List UInt8 := dkwX1_smell_0 ++ dktX1_smell_1
theorem dksX1_smell_0 : cX1_smell.data.toList.drop 0 = dktX1_smell_0 := by decide +kernel
theorem dksX1_smell_1 : cX1_smell.data.toList.drop 24 = dktX1_smell_1 := dk_seg dksX1_smell_0 24 rfl rfl
theorem dX1_smell_0 : decode cX1_smell 0 = .ok (.aload_n 0, 1) := dk_42 (dk_at dksX1_smell_0 0 rfl rfl)
theorem dX1_smell_1 : decode cX1_smell 1 = .ok (.invokevirtual 93, 3) := dk_182 0 93 (dk_at dksX1_smell_0 1 rfl rfl)
theorem dX1_smell_4 : decode cX1_smell 4 = .ok (.aload_n 0, 1) := dk_42 (dk_at dksX1_smell_0 4 rfl rfl)
theorem dX1_smell_5 : decode cX1_smell 5 = .ok (.aload_n 0, 1) := dk_42 (dk_at dksX1_smell_0 5 rfl rfl)
theorem dX1_smell_6 : decode cX1_smell 6 = .ok (.iload_n 1, 1) := dk_27 (dk_at dksX1_smell_0 6 rfl rfl)
theorem dX1_smell_7 : decode cX1_smell 7 = .ok (.invokevirtual 153, 3) := dk_182 0 153 (dk_at dksX1_smell_0 7 rfl rfl)
theorem dX1_smell_10 : decode cX1_smell 10 = .ok (.iload_n 2, 1) := dk_28 (dk_at dksX1_smell_0 10 rfl rfl)
theorem dX1_smell_11 : decode cX1_smell 11 = .ok (.invokevirtual 234, 3) := dk_182 0 234 (dk_at dksX1_smell_0 11 rfl rfl)
theorem dX1_smell_14 : decode cX1_smell 14 = .ok (.istore_n 3, 1) := dk_62 (dk_at dksX1_smell_0 14 rfl rfl)
theorem dX1_smell_15 : decode cX1_smell 15 = .ok (.iload_n 3, 1) := dk_29 (dk_at dksX1_smell_0 15 rfl rfl)
theorem dX1_smell_16 : decode cX1_smell 16 = .ok (.ifCond .eq 11, 3) := dk_153 0 11 (dk_at dksX1_smell_0 16 rfl rfl)
theorem dX1_smell_19 : decode cX1_smell 19 = .ok (.aload_n 0, 1) := dk_42 (dk_at dksX1_smell_0 19 rfl rfl)
theorem dX1_smell_20 : decode cX1_smell 20 = .ok (.iload_n 3, 1) := dk_29 (dk_at dksX1_smell_0 20 rfl rfl)
theorem dX1_smell_21 : decode cX1_smell 21 = .ok (.invokevirtual 107, 3) := dk_182 0 107 (dk_at dksX1_smell_0 21 rfl rfl)
theorem dX1_smell_24 : decode cX1_smell 24 = .ok (.goto 16, 3) := dk_167 0 16 (dk_at dksX1_smell_1 0 rfl rfl)
theorem dX1_smell_27 : decode cX1_smell 27 = .ok (.aload_n 0, 1) := dk_42 (dk_at dksX1_smell_1 3 rfl rfl)
theorem dX1_smell_28 : decode cX1_smell 28 = .ok (.getfield 33, 3) := dk_180 0 33 (dk_at dksX1_smell_1 4 rfl rfl)
theorem dX1_smell_31 : decode cX1_smell 31 = .ok (.iload_n 1, 1) := dk_27 (dk_at dksX1_smell_1 7 rfl rfl)
theorem dX1_smell_32 : decode cX1_smell 32 = .ok (.aload_n 0, 1) := dk_42 (dk_at dksX1_smell_1 8 rfl rfl)
theorem dX1_smell_33 : decode cX1_smell 33 = .ok (.iload_n 2, 1) := dk_28 (dk_at dksX1_smell_1 9 rfl rfl)
theorem dX1_smell_34 : decode cX1_smell 34 = .ok (.invokevirtual 238, 3) := dk_182 0 238 (dk_at dksX1_smell_1 10 rfl rfl)
theorem dX1_smell_37 : decode cX1_smell 37 = .ok (.invokevirtual 251, 3) := dk_182 0 251 (dk_at dksX1_smell_1 13 rfl rfl)
theorem dX1_smell_40 : decode cX1_smell 40 = .ok (.ireturn, 1) := dk_172 (dk_at dksX1_smell_1 16 rfl rfl)
abbrev cX1_turned : ByteArray := prog_1_method_27_code
def yX1_turned : MethodName := ⟨RX1, "turned", "(I)I"⟩
def dkwX1_turned_2 : List UInt8 := [172, 132, 2, 1, 167, 255, 224, 16, 254, 172]
abbrev dktX1_turned_2 : List UInt8 := dkwX1_turned_2 ++ []
def dkwX1_turned_1 : List UInt8 := [163, 0, 31, 42, 180, 0, 118, 180, 0, 157, 27, 50, 42, 28, 182, 0, 238, 182, 0, 255, 153, 0, 5, 28]
abbrev dktX1_turned_1 : List UInt8 := dkwX1_turned_1 ++ dktX1_turned_2
def dkwX1_turned_0 : List UInt8 := [42, 182, 0, 93, 42, 27, 182, 0, 153, 154, 0, 9, 42, 4, 182, 0, 107, 172, 3, 61, 28, 17, 1, 45]
abbrev dktX1_turned_0 : List UInt8 := dkwX1_turned_0 ++ dktX1_turned_1
theorem dksX1_turned_0 : cX1_turned.data.toList.drop 0 = dktX1_turned_0 := by decide +kernel
theorem dksX1_turned_1 : cX1_turned.data.toList.drop 24 = dktX1_turned_1 := dk_seg dksX1_turned_0 24 rfl rfl
theorem dksX1_turned_2 : cX1_turned.data.toList.drop 48 = dktX1_turned_2 := dk_seg dksX1_turned_1 24 rfl rfl
theorem dX1_turned_0 : decode cX1_turned 0 = .ok (.aload_n 0, 1) := dk_42 (dk_at dksX1_turned_0 0 rfl rfl)
theorem dX1_turned_1 : decode cX1_turned 1 = .ok (.invokevirtual 93, 3) := dk_182 0 93 (dk_at dksX1_turned_0 1 rfl rfl)
theorem dX1_turned_4 : decode cX1_turned 4 = .ok (.aload_n 0, 1) := dk_42 (dk_at dksX1_turned_0 4 rfl rfl)
theorem dX1_turned_5 : decode cX1_turned 5 = .ok (.iload_n 1, 1) := dk_27 (dk_at dksX1_turned_0 5 rfl rfl)
theorem dX1_turned_6 : decode cX1_turned 6 = .ok (.invokevirtual 153, 3) := dk_182 0 153 (dk_at dksX1_turned_0 6 rfl rfl)
theorem dX1_turned_9 : decode cX1_turned 9 = .ok (.ifCond .ne 9, 3) := dk_154 0 9 (dk_at dksX1_turned_0 9 rfl rfl)
theorem dX1_turned_12 : decode cX1_turned 12 = .ok (.aload_n 0, 1) := dk_42 (dk_at dksX1_turned_0 12 rfl rfl)
theorem dX1_turned_13 : decode cX1_turned 13 = .ok (.iconst 1, 1) := dk_4 (dk_at dksX1_turned_0 13 rfl rfl)
theorem dX1_turned_14 : decode cX1_turned 14 = .ok (.invokevirtual 107, 3) := dk_182 0 107 (dk_at dksX1_turned_0 14 rfl rfl)
theorem dX1_turned_17 : decode cX1_turned 17 = .ok (.ireturn, 1) := dk_172 (dk_at dksX1_turned_0 17 rfl rfl)
theorem dX1_turned_18 : decode cX1_turned 18 = .ok (.iconst 0, 1) := dk_3 (dk_at dksX1_turned_0 18 rfl rfl)
theorem dX1_turned_19 : decode cX1_turned 19 = .ok (.istore_n 2, 1) := dk_61 (dk_at dksX1_turned_0 19 rfl rfl)
theorem dX1_turned_20 : decode cX1_turned 20 = .ok (.iload_n 2, 1) := dk_28 (dk_at dksX1_turned_0 20 rfl rfl)
theorem dX1_turned_21 : decode cX1_turned 21 = .ok (.sipush 301, 3) := dk_17 1 45 (dk_at dksX1_turned_0 21 rfl rfl)
theorem dX1_turned_24 : decode cX1_turned 24 = .ok (.if_icmp .gt 31, 3) := dk_163 0 31 (dk_at dksX1_turned_1 0 rfl rfl)
theorem dX1_turned_27 : decode cX1_turned 27 = .ok (.aload_n 0, 1) := dk_42 (dk_at dksX1_turned_1 3 rfl rfl)
theorem dX1_turned_28 : decode cX1_turned 28 = .ok (.getfield 118, 3) := dk_180 0 118 (dk_at dksX1_turned_1 4 rfl rfl)
theorem dX1_turned_31 : decode cX1_turned 31 = .ok (.getfield 157, 3) := dk_180 0 157 (dk_at dksX1_turned_1 7 rfl rfl)
theorem dX1_turned_34 : decode cX1_turned 34 = .ok (.iload_n 1, 1) := dk_27 (dk_at dksX1_turned_1 10 rfl rfl)
theorem dX1_turned_35 : decode cX1_turned 35 = .ok (.aaload, 1) := dk_50 (dk_at dksX1_turned_1 11 rfl rfl)
theorem dX1_turned_36 : decode cX1_turned 36 = .ok (.aload_n 0, 1) := dk_42 (dk_at dksX1_turned_1 12 rfl rfl)
theorem dX1_turned_37 : decode cX1_turned 37 = .ok (.iload_n 2, 1) := dk_28 (dk_at dksX1_turned_1 13 rfl rfl)
theorem dX1_turned_38 : decode cX1_turned 38 = .ok (.invokevirtual 238, 3) := dk_182 0 238 (dk_at dksX1_turned_1 14 rfl rfl)
theorem dX1_turned_41 : decode cX1_turned 41 = .ok (.invokevirtual 255, 3) := dk_182 0 255 (dk_at dksX1_turned_1 17 rfl rfl)
theorem dX1_turned_44 : decode cX1_turned 44 = .ok (.ifCond .eq 5, 3) := dk_153 0 5 (dk_at dksX1_turned_1 20 rfl rfl)
theorem dX1_turned_47 : decode cX1_turned 47 = .ok (.iload_n 2, 1) := dk_28 (dk_at dksX1_turned_1 23 rfl rfl)
theorem dX1_turned_48 : decode cX1_turned 48 = .ok (.ireturn, 1) := dk_172 (dk_at dksX1_turned_2 0 rfl rfl)
theorem dX1_turned_49 : decode cX1_turned 49 = .ok (.iinc 2 1, 3) := dk_132 2 1 (dk_at dksX1_turned_2 1 rfl rfl)
theorem dX1_turned_52 : decode cX1_turned 52 = .ok (.goto (-32), 3) := dk_167 255 224 (dk_at dksX1_turned_2 4 rfl rfl)
theorem dX1_turned_55 : decode cX1_turned 55 = .ok (.bipush (-2), 2) := dk_16 254 (dk_at dksX1_turned_2 7 rfl rfl)
theorem dX1_turned_57 : decode cX1_turned 57 = .ok (.ireturn, 1) := dk_172 (dk_at dksX1_turned_2 9 rfl rfl)
abbrev cX1_asked : ByteArray := prog_1_method_30_code
def yX1_asked : MethodName := ⟨RX1, "asked", "(III)I"⟩
def dkwX1_asked_1 : List UInt8 := [167, 0, 14, 42, 27, 28, 29, 42, 180, 0, 43, 182, 1, 13, 172]
abbrev dktX1_asked_1 : List UInt8 := dkwX1_asked_1 ++ []
def dkwX1_asked_0 : List UInt8 := [42, 182, 0, 93, 42, 27, 28, 29, 182, 1, 10, 54, 4, 21, 4, 153, 0, 12, 42, 21, 4, 182, 0, 107]
abbrev dktX1_asked_0 : List UInt8 := dkwX1_asked_0 ++ dktX1_asked_1
theorem dksX1_asked_0 : cX1_asked.data.toList.drop 0 = dktX1_asked_0 := by decide +kernel
theorem dksX1_asked_1 : cX1_asked.data.toList.drop 24 = dktX1_asked_1 := dk_seg dksX1_asked_0 24 rfl rfl
theorem dX1_asked_0 : decode cX1_asked 0 = .ok (.aload_n 0, 1) := dk_42 (dk_at dksX1_asked_0 0 rfl rfl)
theorem dX1_asked_1 : decode cX1_asked 1 = .ok (.invokevirtual 93, 3) := dk_182 0 93 (dk_at dksX1_asked_0 1 rfl rfl)
theorem dX1_asked_4 : decode cX1_asked 4 = .ok (.aload_n 0, 1) := dk_42 (dk_at dksX1_asked_0 4 rfl rfl)
theorem dX1_asked_5 : decode cX1_asked 5 = .ok (.iload_n 1, 1) := dk_27 (dk_at dksX1_asked_0 5 rfl rfl)
theorem dX1_asked_6 : decode cX1_asked 6 = .ok (.iload_n 2, 1) := dk_28 (dk_at dksX1_asked_0 6 rfl rfl)
theorem dX1_asked_7 : decode cX1_asked 7 = .ok (.iload_n 3, 1) := dk_29 (dk_at dksX1_asked_0 7 rfl rfl)
theorem dX1_asked_8 : decode cX1_asked 8 = .ok (.invokevirtual 266, 3) := dk_182 1 10 (dk_at dksX1_asked_0 8 rfl rfl)
theorem dX1_asked_11 : decode cX1_asked 11 = .ok (.istore 4, 2) := dk_54 4 (dk_at dksX1_asked_0 11 rfl rfl)
theorem dX1_asked_13 : decode cX1_asked 13 = .ok (.iload 4, 2) := dk_21 4 (dk_at dksX1_asked_0 13 rfl rfl)
theorem dX1_asked_15 : decode cX1_asked 15 = .ok (.ifCond .eq 12, 3) := dk_153 0 12 (dk_at dksX1_asked_0 15 rfl rfl)
theorem dX1_asked_18 : decode cX1_asked 18 = .ok (.aload_n 0, 1) := dk_42 (dk_at dksX1_asked_0 18 rfl rfl)
theorem dX1_asked_19 : decode cX1_asked 19 = .ok (.iload 4, 2) := dk_21 4 (dk_at dksX1_asked_0 19 rfl rfl)
theorem dX1_asked_21 : decode cX1_asked 21 = .ok (.invokevirtual 107, 3) := dk_182 0 107 (dk_at dksX1_asked_0 21 rfl rfl)
theorem dX1_asked_24 : decode cX1_asked 24 = .ok (.goto 14, 3) := dk_167 0 14 (dk_at dksX1_asked_1 0 rfl rfl)
theorem dX1_asked_27 : decode cX1_asked 27 = .ok (.aload_n 0, 1) := dk_42 (dk_at dksX1_asked_1 3 rfl rfl)
theorem dX1_asked_28 : decode cX1_asked 28 = .ok (.iload_n 1, 1) := dk_27 (dk_at dksX1_asked_1 4 rfl rfl)
theorem dX1_asked_29 : decode cX1_asked 29 = .ok (.iload_n 2, 1) := dk_28 (dk_at dksX1_asked_1 5 rfl rfl)
theorem dX1_asked_30 : decode cX1_asked 30 = .ok (.iload_n 3, 1) := dk_29 (dk_at dksX1_asked_1 6 rfl rfl)
theorem dX1_asked_31 : decode cX1_asked 31 = .ok (.aload_n 0, 1) := dk_42 (dk_at dksX1_asked_1 7 rfl rfl)
theorem dX1_asked_32 : decode cX1_asked 32 = .ok (.getfield 43, 3) := dk_180 0 43 (dk_at dksX1_asked_1 8 rfl rfl)
theorem dX1_asked_35 : decode cX1_asked 35 = .ok (.invokevirtual 269, 3) := dk_182 1 13 (dk_at dksX1_asked_1 11 rfl rfl)
theorem dX1_asked_38 : decode cX1_asked 38 = .ok (.ireturn, 1) := dk_172 (dk_at dksX1_asked_1 14 rfl rfl)
abbrev cX1_crossWhy : ByteArray := prog_1_method_29_code
def yX1_crossWhy : MethodName := ⟨RX1, "crossWhy", "(III)I"⟩
def dkwX1_crossWhy_1 : List UInt8 := [182, 0, 234, 172]
abbrev dktX1_crossWhy_1 : List UInt8 := dkwX1_crossWhy_1 ++ []
def dkwX1_crossWhy_0 : List UInt8 := [42, 42, 27, 182, 0, 193, 153, 0, 15, 42, 28, 182, 0, 213, 153, 0, 7, 4, 167, 0, 4, 3, 29]
abbrev dktX1_crossWhy_0 : List UInt8 := dkwX1_crossWhy_0 ++ dktX1_crossWhy_1
theorem dksX1_crossWhy_0 : cX1_crossWhy.data.toList.drop 0 = dktX1_crossWhy_0 := by decide +kernel
theorem dksX1_crossWhy_1 : cX1_crossWhy.data.toList.drop 23 = dktX1_crossWhy_1 := dk_seg dksX1_crossWhy_0 23 rfl rfl
theorem dX1_crossWhy_0 : decode cX1_crossWhy 0 = .ok (.aload_n 0, 1) := dk_42 (dk_at dksX1_crossWhy_0 0 rfl rfl)
theorem dX1_crossWhy_1 : decode cX1_crossWhy 1 = .ok (.aload_n 0, 1) := dk_42 (dk_at dksX1_crossWhy_0 1 rfl rfl)
theorem dX1_crossWhy_2 : decode cX1_crossWhy 2 = .ok (.iload_n 1, 1) := dk_27 (dk_at dksX1_crossWhy_0 2 rfl rfl)
theorem dX1_crossWhy_3 : decode cX1_crossWhy 3 = .ok (.invokevirtual 193, 3) := dk_182 0 193 (dk_at dksX1_crossWhy_0 3 rfl rfl)
theorem dX1_crossWhy_6 : decode cX1_crossWhy 6 = .ok (.ifCond .eq 15, 3) := dk_153 0 15 (dk_at dksX1_crossWhy_0 6 rfl rfl)
theorem dX1_crossWhy_9 : decode cX1_crossWhy 9 = .ok (.aload_n 0, 1) := dk_42 (dk_at dksX1_crossWhy_0 9 rfl rfl)
theorem dX1_crossWhy_10 : decode cX1_crossWhy 10 = .ok (.iload_n 2, 1) := dk_28 (dk_at dksX1_crossWhy_0 10 rfl rfl)
theorem dX1_crossWhy_11 : decode cX1_crossWhy 11 = .ok (.invokevirtual 213, 3) := dk_182 0 213 (dk_at dksX1_crossWhy_0 11 rfl rfl)
theorem dX1_crossWhy_14 : decode cX1_crossWhy 14 = .ok (.ifCond .eq 7, 3) := dk_153 0 7 (dk_at dksX1_crossWhy_0 14 rfl rfl)
theorem dX1_crossWhy_17 : decode cX1_crossWhy 17 = .ok (.iconst 1, 1) := dk_4 (dk_at dksX1_crossWhy_0 17 rfl rfl)
theorem dX1_crossWhy_18 : decode cX1_crossWhy 18 = .ok (.goto 4, 3) := dk_167 0 4 (dk_at dksX1_crossWhy_0 18 rfl rfl)
theorem dX1_crossWhy_21 : decode cX1_crossWhy 21 = .ok (.iconst 0, 1) := dk_3 (dk_at dksX1_crossWhy_0 21 rfl rfl)
theorem dX1_crossWhy_22 : decode cX1_crossWhy 22 = .ok (.iload_n 3, 1) := dk_29 (dk_at dksX1_crossWhy_0 22 rfl rfl)
theorem dX1_crossWhy_23 : decode cX1_crossWhy 23 = .ok (.invokevirtual 234, 3) := dk_182 0 234 (dk_at dksX1_crossWhy_1 0 rfl rfl)
theorem dX1_crossWhy_26 : decode cX1_crossWhy 26 = .ok (.ireturn, 1) := dk_172 (dk_at dksX1_crossWhy_1 3 rfl rfl)
abbrev cX1_askedOf : ByteArray := prog_1_method_28_code
def yX1_askedOf : MethodName := ⟨RX1, "askedOf", "(IIILSaltedGate$Law;)I"⟩
def dkwX1_askedOf_1 : List UInt8 := [25, 4, 182, 1, 6, 172]
abbrev dktX1_askedOf_1 : List UInt8 := dkwX1_askedOf_1 ++ []
def dkwX1_askedOf_0 : List UInt8 := [42, 180, 0, 33, 27, 42, 180, 0, 33, 27, 28, 42, 29, 182, 0, 238, 182, 1, 2, 42, 29, 182, 0, 238]
abbrev dktX1_askedOf_0 : List UInt8 := dkwX1_askedOf_0 ++ dktX1_askedOf_1
theorem dksX1_askedOf_0 : cX1_askedOf.data.toList.drop 0 = dktX1_askedOf_0 := by decide +kernel
theorem dksX1_askedOf_1 : cX1_askedOf.data.toList.drop 24 = dktX1_askedOf_1 := dk_seg dksX1_askedOf_0 24 rfl rfl
theorem dX1_askedOf_0 : decode cX1_askedOf 0 = .ok (.aload_n 0, 1) := dk_42 (dk_at dksX1_askedOf_0 0 rfl rfl)
theorem dX1_askedOf_1 : decode cX1_askedOf 1 = .ok (.getfield 33, 3) := dk_180 0 33 (dk_at dksX1_askedOf_0 1 rfl rfl)
theorem dX1_askedOf_4 : decode cX1_askedOf 4 = .ok (.iload_n 1, 1) := dk_27 (dk_at dksX1_askedOf_0 4 rfl rfl)
theorem dX1_askedOf_5 : decode cX1_askedOf 5 = .ok (.aload_n 0, 1) := dk_42 (dk_at dksX1_askedOf_0 5 rfl rfl)
theorem dX1_askedOf_6 : decode cX1_askedOf 6 = .ok (.getfield 33, 3) := dk_180 0 33 (dk_at dksX1_askedOf_0 6 rfl rfl)
theorem dX1_askedOf_9 : decode cX1_askedOf 9 = .ok (.iload_n 1, 1) := dk_27 (dk_at dksX1_askedOf_0 9 rfl rfl)
theorem dX1_askedOf_10 : decode cX1_askedOf 10 = .ok (.iload_n 2, 1) := dk_28 (dk_at dksX1_askedOf_0 10 rfl rfl)
theorem dX1_askedOf_11 : decode cX1_askedOf 11 = .ok (.aload_n 0, 1) := dk_42 (dk_at dksX1_askedOf_0 11 rfl rfl)
theorem dX1_askedOf_12 : decode cX1_askedOf 12 = .ok (.iload_n 3, 1) := dk_29 (dk_at dksX1_askedOf_0 12 rfl rfl)
theorem dX1_askedOf_13 : decode cX1_askedOf 13 = .ok (.invokevirtual 238, 3) := dk_182 0 238 (dk_at dksX1_askedOf_0 13 rfl rfl)
theorem dX1_askedOf_16 : decode cX1_askedOf 16 = .ok (.invokevirtual 258, 3) := dk_182 1 2 (dk_at dksX1_askedOf_0 16 rfl rfl)
theorem dX1_askedOf_19 : decode cX1_askedOf 19 = .ok (.aload_n 0, 1) := dk_42 (dk_at dksX1_askedOf_0 19 rfl rfl)
theorem dX1_askedOf_20 : decode cX1_askedOf 20 = .ok (.iload_n 3, 1) := dk_29 (dk_at dksX1_askedOf_0 20 rfl rfl)
theorem dX1_askedOf_21 : decode cX1_askedOf 21 = .ok (.invokevirtual 238, 3) := dk_182 0 238 (dk_at dksX1_askedOf_0 21 rfl rfl)
theorem dX1_askedOf_24 : decode cX1_askedOf 24 = .ok (.aload 4, 2) := dk_25 4 (dk_at dksX1_askedOf_1 0 rfl rfl)
theorem dX1_askedOf_26 : decode cX1_askedOf 26 = .ok (.invokevirtual 262, 3) := dk_182 1 6 (dk_at dksX1_askedOf_1 2 rfl rfl)
theorem dX1_askedOf_29 : decode cX1_askedOf 29 = .ok (.ireturn, 1) := dk_172 (dk_at dksX1_askedOf_1 5 rfl rfl)
abbrev cX1_found : ByteArray := prog_1_method_31_code
def yX1_found : MethodName := ⟨RX1, "found", "(III)I"⟩
def dkwX1_found_1 : List UInt8 := [167, 0, 17, 42, 180, 0, 33, 27, 28, 42, 29, 182, 0, 238, 182, 1, 2, 172]
abbrev dktX1_found_1 : List UInt8 := dkwX1_found_1 ++ []
def dkwX1_found_0 : List UInt8 := [42, 182, 0, 93, 42, 27, 28, 29, 182, 1, 10, 54, 4, 21, 4, 153, 0, 12, 42, 21, 4, 182, 0, 107]
abbrev dktX1_found_0 : List UInt8 := dkwX1_found_0 ++ dktX1_found_1
theorem dksX1_found_0 : cX1_found.data.toList.drop 0 = dktX1_found_0 := by decide +kernel
theorem dksX1_found_1 : cX1_found.data.toList.drop 24 = dktX1_found_1 := dk_seg dksX1_found_0 24 rfl rfl
theorem dX1_found_0 : decode cX1_found 0 = .ok (.aload_n 0, 1) := dk_42 (dk_at dksX1_found_0 0 rfl rfl)
theorem dX1_found_1 : decode cX1_found 1 = .ok (.invokevirtual 93, 3) := dk_182 0 93 (dk_at dksX1_found_0 1 rfl rfl)
theorem dX1_found_4 : decode cX1_found 4 = .ok (.aload_n 0, 1) := dk_42 (dk_at dksX1_found_0 4 rfl rfl)
theorem dX1_found_5 : decode cX1_found 5 = .ok (.iload_n 1, 1) := dk_27 (dk_at dksX1_found_0 5 rfl rfl)
theorem dX1_found_6 : decode cX1_found 6 = .ok (.iload_n 2, 1) := dk_28 (dk_at dksX1_found_0 6 rfl rfl)
theorem dX1_found_7 : decode cX1_found 7 = .ok (.iload_n 3, 1) := dk_29 (dk_at dksX1_found_0 7 rfl rfl)
theorem dX1_found_8 : decode cX1_found 8 = .ok (.invokevirtual 266, 3) := dk_182 1 10 (dk_at dksX1_found_0 8 rfl rfl)
theorem dX1_found_11 : decode cX1_found 11 = .ok (.istore 4, 2) := dk_54 4 (dk_at dksX1_found_0 11 rfl rfl)
theorem dX1_found_13 : decode cX1_found 13 = .ok (.iload 4, 2) := dk_21 4 (dk_at dksX1_found_0 13 rfl rfl)
theorem dX1_found_15 : decode cX1_found 15 = .ok (.ifCond .eq 12, 3) := dk_153 0 12 (dk_at dksX1_found_0 15 rfl rfl)
theorem dX1_found_18 : decode cX1_found 18 = .ok (.aload_n 0, 1) := dk_42 (dk_at dksX1_found_0 18 rfl rfl)
theorem dX1_found_19 : decode cX1_found 19 = .ok (.iload 4, 2) := dk_21 4 (dk_at dksX1_found_0 19 rfl rfl)
theorem dX1_found_21 : decode cX1_found 21 = .ok (.invokevirtual 107, 3) := dk_182 0 107 (dk_at dksX1_found_0 21 rfl rfl)
theorem dX1_found_24 : decode cX1_found 24 = .ok (.goto 17, 3) := dk_167 0 17 (dk_at dksX1_found_1 0 rfl rfl)
theorem dX1_found_27 : decode cX1_found 27 = .ok (.aload_n 0, 1) := dk_42 (dk_at dksX1_found_1 3 rfl rfl)
theorem dX1_found_28 : decode cX1_found 28 = .ok (.getfield 33, 3) := dk_180 0 33 (dk_at dksX1_found_1 4 rfl rfl)
theorem dX1_found_31 : decode cX1_found 31 = .ok (.iload_n 1, 1) := dk_27 (dk_at dksX1_found_1 7 rfl rfl)
theorem dX1_found_32 : decode cX1_found 32 = .ok (.iload_n 2, 1) := dk_28 (dk_at dksX1_found_1 8 rfl rfl)
theorem dX1_found_33 : decode cX1_found 33 = .ok (.aload_n 0, 1) := dk_42 (dk_at dksX1_found_1 9 rfl rfl)
theorem dX1_found_34 : decode cX1_found 34 = .ok (.iload_n 3, 1) := dk_29 (dk_at dksX1_found_1 10 rfl rfl)
theorem dX1_found_35 : decode cX1_found 35 = .ok (.invokevirtual 238, 3) := dk_182 0 238 (dk_at dksX1_found_1 11 rfl rfl)
theorem dX1_found_38 : decode cX1_found 38 = .ok (.invokevirtual 258, 3) := dk_182 1 2 (dk_at dksX1_found_1 14 rfl rfl)
theorem dX1_found_41 : decode cX1_found 41 = .ok (.ireturn, 1) := dk_172 (dk_at dksX1_found_1 17 rfl rfl)
abbrev cX1_otherLaw : ByteArray := prog_1_method_32_code
def yX1_otherLaw : MethodName := ⟨RX1, "otherLaw", "(III)I"⟩
def dkwX1_otherLaw_1 : List UInt8 := [167, 0, 14, 42, 27, 28, 29, 42, 180, 0, 50, 182, 1, 13, 172]
abbrev dktX1_otherLaw_1 : List UInt8 := dkwX1_otherLaw_1 ++ []
def dkwX1_otherLaw_0 : List UInt8 := [42, 182, 0, 93, 42, 27, 28, 29, 182, 1, 10, 54, 4, 21, 4, 153, 0, 12, 42, 21, 4, 182, 0, 107]
abbrev dktX1_otherLaw_0 : List UInt8 := dkwX1_otherLaw_0 ++ dktX1_otherLaw_1
theorem dksX1_otherLaw_0 : cX1_otherLaw.data.toList.drop 0 = dktX1_otherLaw_0 := by decide +kernel
theorem dksX1_otherLaw_1 : cX1_otherLaw.data.toList.drop 24 = dktX1_otherLaw_1 := dk_seg dksX1_otherLaw_0 24 rfl rfl
theorem dX1_otherLaw_0 : decode cX1_otherLaw 0 = .ok (.aload_n 0, 1) := dk_42 (dk_at dksX1_otherLaw_0 0 rfl rfl)
theorem dX1_otherLaw_1 : decode cX1_otherLaw 1 = .ok (.invokevirtual 93, 3) := dk_182 0 93 (dk_at dksX1_otherLaw_0 1 rfl rfl)
theorem dX1_otherLaw_4 : decode cX1_otherLaw 4 = .ok (.aload_n 0, 1) := dk_42 (dk_at dksX1_otherLaw_0 4 rfl rfl)
theorem dX1_otherLaw_5 : decode cX1_otherLaw 5 = .ok (.iload_n 1, 1) := dk_27 (dk_at dksX1_otherLaw_0 5 rfl rfl)
theorem dX1_otherLaw_6 : decode cX1_otherLaw 6 = .ok (.iload_n 2, 1) := dk_28 (dk_at dksX1_otherLaw_0 6 rfl rfl)
theorem dX1_otherLaw_7 : decode cX1_otherLaw 7 = .ok (.iload_n 3, 1) := dk_29 (dk_at dksX1_otherLaw_0 7 rfl rfl)
theorem dX1_otherLaw_8 : decode cX1_otherLaw 8 = .ok (.invokevirtual 266, 3) := dk_182 1 10 (dk_at dksX1_otherLaw_0 8 rfl rfl)
theorem dX1_otherLaw_11 : decode cX1_otherLaw 11 = .ok (.istore 4, 2) := dk_54 4 (dk_at dksX1_otherLaw_0 11 rfl rfl)
theorem dX1_otherLaw_13 : decode cX1_otherLaw 13 = .ok (.iload 4, 2) := dk_21 4 (dk_at dksX1_otherLaw_0 13 rfl rfl)
theorem dX1_otherLaw_15 : decode cX1_otherLaw 15 = .ok (.ifCond .eq 12, 3) := dk_153 0 12 (dk_at dksX1_otherLaw_0 15 rfl rfl)
theorem dX1_otherLaw_18 : decode cX1_otherLaw 18 = .ok (.aload_n 0, 1) := dk_42 (dk_at dksX1_otherLaw_0 18 rfl rfl)
theorem dX1_otherLaw_19 : decode cX1_otherLaw 19 = .ok (.iload 4, 2) := dk_21 4 (dk_at dksX1_otherLaw_0 19 rfl rfl)
theorem dX1_otherLaw_21 : decode cX1_otherLaw 21 = .ok (.invokevirtual 107, 3) := dk_182 0 107 (dk_at dksX1_otherLaw_0 21 rfl rfl)
theorem dX1_otherLaw_24 : decode cX1_otherLaw 24 = .ok (.goto 14, 3) := dk_167 0 14 (dk_at dksX1_otherLaw_1 0 rfl rfl)
theorem dX1_otherLaw_27 : decode cX1_otherLaw 27 = .ok (.aload_n 0, 1) := dk_42 (dk_at dksX1_otherLaw_1 3 rfl rfl)
theorem dX1_otherLaw_28 : decode cX1_otherLaw 28 = .ok (.iload_n 1, 1) := dk_27 (dk_at dksX1_otherLaw_1 4 rfl rfl)
theorem dX1_otherLaw_29 : decode cX1_otherLaw 29 = .ok (.iload_n 2, 1) := dk_28 (dk_at dksX1_otherLaw_1 5 rfl rfl)
theorem dX1_otherLaw_30 : decode cX1_otherLaw 30 = .ok (.iload_n 3, 1) := dk_29 (dk_at dksX1_otherLaw_1 6 rfl rfl)
theorem dX1_otherLaw_31 : decode cX1_otherLaw 31 = .ok (.aload_n 0, 1) := dk_42 (dk_at dksX1_otherLaw_1 7 rfl rfl)
theorem dX1_otherLaw_32 : decode cX1_otherLaw 32 = .ok (.getfield 50, 3) := dk_180 0 50 (dk_at dksX1_otherLaw_1 8 rfl rfl)
theorem dX1_otherLaw_35 : decode cX1_otherLaw 35 = .ok (.invokevirtual 269, 3) := dk_182 1 13 (dk_at dksX1_otherLaw_1 11 rfl rfl)
theorem dX1_otherLaw_38 : decode cX1_otherLaw 38 = .ok (.ireturn, 1) := dk_172 (dk_at dksX1_otherLaw_1 14 rfl rfl)
abbrev cX1_carries : ByteArray := prog_1_method_33_code
def yX1_carries : MethodName := ⟨RX1, "carries", "(II)I"⟩
def dkwX1_carries_4 : List UInt8 := [167, 255, 204, 21, 5, 172]
abbrev dktX1_carries_4 : List UInt8 := dkwX1_carries_4 ++ []
def dkwX1_carries_3 : List UInt8 := [180, 0, 157, 21, 6, 50, 42, 28, 182, 0, 238, 182, 0, 244, 167, 0, 4, 3, 96, 54, 5, 132, 6, 1]
abbrev dktX1_carries_3 : List UInt8 := dkwX1_carries_3 ++ dktX1_carries_4
def dkwX1_carries_2 : List UInt8 := [180, 0, 142, 162, 0, 46, 21, 5, 21, 4, 21, 6, 184, 0, 189, 153, 0, 24, 42, 180, 0, 118]
abbrev dktX1_carries_2 : List UInt8 := dkwX1_carries_2 ++ dktX1_carries_3
def dkwX1_carries_1 : List UInt8 := [172, 42, 180, 0, 33, 27, 182, 0, 211, 54, 4, 3, 54, 5, 3, 54, 6, 21, 6, 42, 180, 0, 118]
abbrev dktX1_carries_1 : List UInt8 := dkwX1_carries_1 ++ dktX1_carries_2
def dkwX1_carries_0 : List UInt8 := [42, 182, 0, 93, 42, 42, 27, 182, 0, 193, 28, 182, 0, 234, 62, 29, 153, 0, 9, 42, 29, 182, 0, 107]
abbrev dktX1_carries_0 : List UInt8 := dkwX1_carries_0 ++ dktX1_carries_1
theorem dksX1_carries_0 : cX1_carries.data.toList.drop 0 = dktX1_carries_0 := by decide +kernel
theorem dksX1_carries_1 : cX1_carries.data.toList.drop 24 = dktX1_carries_1 := dk_seg dksX1_carries_0 24 rfl rfl
theorem dksX1_carries_2 : cX1_carries.data.toList.drop 47 = dktX1_carries_2 := dk_seg dksX1_carries_1 23 rfl rfl
theorem dksX1_carries_3 : cX1_carries.data.toList.drop 69 = dktX1_carries_3 := dk_seg dksX1_carries_2 22 rfl rfl
theorem dksX1_carries_4 : cX1_carries.data.toList.drop 93 = dktX1_carries_4 := dk_seg dksX1_carries_3 24 rfl rfl
theorem dX1_carries_0 : decode cX1_carries 0 = .ok (.aload_n 0, 1) := dk_42 (dk_at dksX1_carries_0 0 rfl rfl)
theorem dX1_carries_1 : decode cX1_carries 1 = .ok (.invokevirtual 93, 3) := dk_182 0 93 (dk_at dksX1_carries_0 1 rfl rfl)
theorem dX1_carries_4 : decode cX1_carries 4 = .ok (.aload_n 0, 1) := dk_42 (dk_at dksX1_carries_0 4 rfl rfl)
theorem dX1_carries_5 : decode cX1_carries 5 = .ok (.aload_n 0, 1) := dk_42 (dk_at dksX1_carries_0 5 rfl rfl)
theorem dX1_carries_6 : decode cX1_carries 6 = .ok (.iload_n 1, 1) := dk_27 (dk_at dksX1_carries_0 6 rfl rfl)
theorem dX1_carries_7 : decode cX1_carries 7 = .ok (.invokevirtual 193, 3) := dk_182 0 193 (dk_at dksX1_carries_0 7 rfl rfl)
theorem dX1_carries_10 : decode cX1_carries 10 = .ok (.iload_n 2, 1) := dk_28 (dk_at dksX1_carries_0 10 rfl rfl)
theorem dX1_carries_11 : decode cX1_carries 11 = .ok (.invokevirtual 234, 3) := dk_182 0 234 (dk_at dksX1_carries_0 11 rfl rfl)
theorem dX1_carries_14 : decode cX1_carries 14 = .ok (.istore_n 3, 1) := dk_62 (dk_at dksX1_carries_0 14 rfl rfl)
theorem dX1_carries_15 : decode cX1_carries 15 = .ok (.iload_n 3, 1) := dk_29 (dk_at dksX1_carries_0 15 rfl rfl)
theorem dX1_carries_16 : decode cX1_carries 16 = .ok (.ifCond .eq 9, 3) := dk_153 0 9 (dk_at dksX1_carries_0 16 rfl rfl)
theorem dX1_carries_19 : decode cX1_carries 19 = .ok (.aload_n 0, 1) := dk_42 (dk_at dksX1_carries_0 19 rfl rfl)
theorem dX1_carries_20 : decode cX1_carries 20 = .ok (.iload_n 3, 1) := dk_29 (dk_at dksX1_carries_0 20 rfl rfl)
theorem dX1_carries_21 : decode cX1_carries 21 = .ok (.invokevirtual 107, 3) := dk_182 0 107 (dk_at dksX1_carries_0 21 rfl rfl)
theorem dX1_carries_24 : decode cX1_carries 24 = .ok (.ireturn, 1) := dk_172 (dk_at dksX1_carries_1 0 rfl rfl)
theorem dX1_carries_25 : decode cX1_carries 25 = .ok (.aload_n 0, 1) := dk_42 (dk_at dksX1_carries_1 1 rfl rfl)
theorem dX1_carries_26 : decode cX1_carries 26 = .ok (.getfield 33, 3) := dk_180 0 33 (dk_at dksX1_carries_1 2 rfl rfl)
theorem dX1_carries_29 : decode cX1_carries 29 = .ok (.iload_n 1, 1) := dk_27 (dk_at dksX1_carries_1 5 rfl rfl)
theorem dX1_carries_30 : decode cX1_carries 30 = .ok (.invokevirtual 211, 3) := dk_182 0 211 (dk_at dksX1_carries_1 6 rfl rfl)
theorem dX1_carries_33 : decode cX1_carries 33 = .ok (.istore 4, 2) := dk_54 4 (dk_at dksX1_carries_1 9 rfl rfl)
theorem dX1_carries_35 : decode cX1_carries 35 = .ok (.iconst 0, 1) := dk_3 (dk_at dksX1_carries_1 11 rfl rfl)
theorem dX1_carries_36 : decode cX1_carries 36 = .ok (.istore 5, 2) := dk_54 5 (dk_at dksX1_carries_1 12 rfl rfl)
theorem dX1_carries_38 : decode cX1_carries 38 = .ok (.iconst 0, 1) := dk_3 (dk_at dksX1_carries_1 14 rfl rfl)
theorem dX1_carries_39 : decode cX1_carries 39 = .ok (.istore 6, 2) := dk_54 6 (dk_at dksX1_carries_1 15 rfl rfl)
theorem dX1_carries_41 : decode cX1_carries 41 = .ok (.iload 6, 2) := dk_21 6 (dk_at dksX1_carries_1 17 rfl rfl)
theorem dX1_carries_43 : decode cX1_carries 43 = .ok (.aload_n 0, 1) := dk_42 (dk_at dksX1_carries_1 19 rfl rfl)
theorem dX1_carries_44 : decode cX1_carries 44 = .ok (.getfield 118, 3) := dk_180 0 118 (dk_at dksX1_carries_1 20 rfl rfl)
theorem dX1_carries_47 : decode cX1_carries 47 = .ok (.getfield 142, 3) := dk_180 0 142 (dk_at dksX1_carries_2 0 rfl rfl)
theorem dX1_carries_50 : decode cX1_carries 50 = .ok (.if_icmp .ge 46, 3) := dk_162 0 46 (dk_at dksX1_carries_2 3 rfl rfl)
theorem dX1_carries_53 : decode cX1_carries 53 = .ok (.iload 5, 2) := dk_21 5 (dk_at dksX1_carries_2 6 rfl rfl)
theorem dX1_carries_55 : decode cX1_carries 55 = .ok (.iload 4, 2) := dk_21 4 (dk_at dksX1_carries_2 8 rfl rfl)
theorem dX1_carries_57 : decode cX1_carries 57 = .ok (.iload 6, 2) := dk_21 6 (dk_at dksX1_carries_2 10 rfl rfl)
theorem dX1_carries_59 : decode cX1_carries 59 = .ok (.invokestatic 189, 3) := dk_184 0 189 (dk_at dksX1_carries_2 12 rfl rfl)
theorem dX1_carries_62 : decode cX1_carries 62 = .ok (.ifCond .eq 24, 3) := dk_153 0 24 (dk_at dksX1_carries_2 15 rfl rfl)
theorem dX1_carries_65 : decode cX1_carries 65 = .ok (.aload_n 0, 1) := dk_42 (dk_at dksX1_carries_2 18 rfl rfl)
theorem dX1_carries_66 : decode cX1_carries 66 = .ok (.getfield 118, 3) := dk_180 0 118 (dk_at dksX1_carries_2 19 rfl rfl)
theorem dX1_carries_69 : decode cX1_carries 69 = .ok (.getfield 157, 3) := dk_180 0 157 (dk_at dksX1_carries_3 0 rfl rfl)
theorem dX1_carries_72 : decode cX1_carries 72 = .ok (.iload 6, 2) := dk_21 6 (dk_at dksX1_carries_3 3 rfl rfl)
theorem dX1_carries_74 : decode cX1_carries 74 = .ok (.aaload, 1) := dk_50 (dk_at dksX1_carries_3 5 rfl rfl)
theorem dX1_carries_75 : decode cX1_carries 75 = .ok (.aload_n 0, 1) := dk_42 (dk_at dksX1_carries_3 6 rfl rfl)
theorem dX1_carries_76 : decode cX1_carries 76 = .ok (.iload_n 2, 1) := dk_28 (dk_at dksX1_carries_3 7 rfl rfl)
theorem dX1_carries_77 : decode cX1_carries 77 = .ok (.invokevirtual 238, 3) := dk_182 0 238 (dk_at dksX1_carries_3 8 rfl rfl)
theorem dX1_carries_80 : decode cX1_carries 80 = .ok (.invokevirtual 244, 3) := dk_182 0 244 (dk_at dksX1_carries_3 11 rfl rfl)
theorem dX1_carries_83 : decode cX1_carries 83 = .ok (.goto 4, 3) := dk_167 0 4 (dk_at dksX1_carries_3 14 rfl rfl)
theorem dX1_carries_86 : decode cX1_carries 86 = .ok (.iconst 0, 1) := dk_3 (dk_at dksX1_carries_3 17 rfl rfl)
theorem dX1_carries_87 : decode cX1_carries 87 = .ok (.iadd, 1) := dk_96 (dk_at dksX1_carries_3 18 rfl rfl)
theorem dX1_carries_88 : decode cX1_carries 88 = .ok (.istore 5, 2) := dk_54 5 (dk_at dksX1_carries_3 19 rfl rfl)
theorem dX1_carries_90 : decode cX1_carries 90 = .ok (.iinc 6 1, 3) := dk_132 6 1 (dk_at dksX1_carries_3 21 rfl rfl)
theorem dX1_carries_93 : decode cX1_carries 93 = .ok (.goto (-52), 3) := dk_167 255 204 (dk_at dksX1_carries_4 0 rfl rfl)
theorem dX1_carries_96 : decode cX1_carries 96 = .ok (.iload 5, 2) := dk_21 5 (dk_at dksX1_carries_4 3 rfl rfl)
theorem dX1_carries_98 : decode cX1_carries 98 = .ok (.ireturn, 1) := dk_172 (dk_at dksX1_carries_4 5 rfl rfl)
abbrev cX1_dutyBy : ByteArray := prog_1_method_34_code
def yX1_dutyBy : MethodName := ⟨RX1, "dutyBy", "(II)I"⟩
def dkwX1_dutyBy_6 : List UInt8 := [167, 255, 172, 21, 4, 172]
abbrev dktX1_dutyBy_6 : List UInt8 := dkwX1_dutyBy_6 ++ []
def dkwX1_dutyBy_5 : List UInt8 := [50, 42, 28, 182, 0, 238, 42, 180, 0, 43, 182, 0, 247, 167, 0, 4, 3, 96, 54, 4, 132, 5, 1]
abbrev dktX1_dutyBy_5 : List UInt8 := dkwX1_dutyBy_5 ++ dktX1_dutyBy_6
def dkwX1_dutyBy_4 : List UInt8 := [182, 0, 167, 42, 180, 0, 118, 180, 1, 19, 27, 50, 166, 0, 28, 42, 180, 0, 118, 180, 0, 157, 21, 5]
abbrev dktX1_dutyBy_4 : List UInt8 := dkwX1_dutyBy_4 ++ dktX1_dutyBy_5
def dkwX1_dutyBy_3 : List UInt8 := [42, 180, 0, 33, 180, 0, 182, 21, 5, 46, 154, 0, 53, 42, 180, 0, 118, 180, 0, 157, 21, 5, 50]
abbrev dktX1_dutyBy_3 : List UInt8 := dkwX1_dutyBy_3 ++ dktX1_dutyBy_4
def dkwX1_dutyBy_2 : List UInt8 := [182, 0, 107, 172, 3, 54, 4, 3, 54, 5, 21, 5, 42, 180, 0, 118, 180, 0, 142, 162, 0, 78, 21, 4]
abbrev dktX1_dutyBy_2 : List UInt8 := dkwX1_dutyBy_2 ++ dktX1_dutyBy_3
def dkwX1_dutyBy_1 : List UInt8 := [184, 0, 103, 153, 0, 7, 4, 167, 0, 4, 3, 28, 182, 0, 234, 62, 29, 153, 0, 9, 42, 29]
abbrev dktX1_dutyBy_1 : List UInt8 := dkwX1_dutyBy_1 ++ dktX1_dutyBy_2
def dkwX1_dutyBy_0 : List UInt8 := [42, 182, 0, 93, 42, 42, 180, 0, 118, 198, 0, 24, 27, 3, 42, 180, 0, 118, 180, 1, 16, 4, 100]
abbrev dktX1_dutyBy_0 : List UInt8 := dkwX1_dutyBy_0 ++ dktX1_dutyBy_1
theorem dksX1_dutyBy_0 : cX1_dutyBy.data.toList.drop 0 = dktX1_dutyBy_0 := by decide +kernel
theorem dksX1_dutyBy_1 : cX1_dutyBy.data.toList.drop 23 = dktX1_dutyBy_1 := dk_seg dksX1_dutyBy_0 23 rfl rfl
theorem dksX1_dutyBy_2 : cX1_dutyBy.data.toList.drop 45 = dktX1_dutyBy_2 := dk_seg dksX1_dutyBy_1 22 rfl rfl
theorem dksX1_dutyBy_3 : cX1_dutyBy.data.toList.drop 69 = dktX1_dutyBy_3 := dk_seg dksX1_dutyBy_2 24 rfl rfl
theorem dksX1_dutyBy_4 : cX1_dutyBy.data.toList.drop 92 = dktX1_dutyBy_4 := dk_seg dksX1_dutyBy_3 23 rfl rfl
theorem dksX1_dutyBy_5 : cX1_dutyBy.data.toList.drop 116 = dktX1_dutyBy_5 := dk_seg dksX1_dutyBy_4 24 rfl rfl
theorem dksX1_dutyBy_6 : cX1_dutyBy.data.toList.drop 139 = dktX1_dutyBy_6 := dk_seg dksX1_dutyBy_5 23 rfl rfl
theorem dX1_dutyBy_0 : decode cX1_dutyBy 0 = .ok (.aload_n 0, 1) := dk_42 (dk_at dksX1_dutyBy_0 0 rfl rfl)
theorem dX1_dutyBy_1 : decode cX1_dutyBy 1 = .ok (.invokevirtual 93, 3) := dk_182 0 93 (dk_at dksX1_dutyBy_0 1 rfl rfl)
theorem dX1_dutyBy_4 : decode cX1_dutyBy 4 = .ok (.aload_n 0, 1) := dk_42 (dk_at dksX1_dutyBy_0 4 rfl rfl)
theorem dX1_dutyBy_5 : decode cX1_dutyBy 5 = .ok (.aload_n 0, 1) := dk_42 (dk_at dksX1_dutyBy_0 5 rfl rfl)
theorem dX1_dutyBy_6 : decode cX1_dutyBy 6 = .ok (.getfield 118, 3) := dk_180 0 118 (dk_at dksX1_dutyBy_0 6 rfl rfl)
theorem dX1_dutyBy_9 : decode cX1_dutyBy 9 = .ok (.ifnull 24, 3) := dk_198 0 24 (dk_at dksX1_dutyBy_0 9 rfl rfl)
theorem dX1_dutyBy_12 : decode cX1_dutyBy 12 = .ok (.iload_n 1, 1) := dk_27 (dk_at dksX1_dutyBy_0 12 rfl rfl)
theorem dX1_dutyBy_13 : decode cX1_dutyBy 13 = .ok (.iconst 0, 1) := dk_3 (dk_at dksX1_dutyBy_0 13 rfl rfl)
theorem dX1_dutyBy_14 : decode cX1_dutyBy 14 = .ok (.aload_n 0, 1) := dk_42 (dk_at dksX1_dutyBy_0 14 rfl rfl)
theorem dX1_dutyBy_15 : decode cX1_dutyBy 15 = .ok (.getfield 118, 3) := dk_180 0 118 (dk_at dksX1_dutyBy_0 15 rfl rfl)
theorem dX1_dutyBy_18 : decode cX1_dutyBy 18 = .ok (.getfield 272, 3) := dk_180 1 16 (dk_at dksX1_dutyBy_0 18 rfl rfl)
theorem dX1_dutyBy_21 : decode cX1_dutyBy 21 = .ok (.iconst 1, 1) := dk_4 (dk_at dksX1_dutyBy_0 21 rfl rfl)
theorem dX1_dutyBy_22 : decode cX1_dutyBy 22 = .ok (.isub, 1) := dk_100 (dk_at dksX1_dutyBy_0 22 rfl rfl)
theorem dX1_dutyBy_23 : decode cX1_dutyBy 23 = .ok (.invokestatic 103, 3) := dk_184 0 103 (dk_at dksX1_dutyBy_1 0 rfl rfl)
theorem dX1_dutyBy_26 : decode cX1_dutyBy 26 = .ok (.ifCond .eq 7, 3) := dk_153 0 7 (dk_at dksX1_dutyBy_1 3 rfl rfl)
theorem dX1_dutyBy_29 : decode cX1_dutyBy 29 = .ok (.iconst 1, 1) := dk_4 (dk_at dksX1_dutyBy_1 6 rfl rfl)
theorem dX1_dutyBy_30 : decode cX1_dutyBy 30 = .ok (.goto 4, 3) := dk_167 0 4 (dk_at dksX1_dutyBy_1 7 rfl rfl)
theorem dX1_dutyBy_33 : decode cX1_dutyBy 33 = .ok (.iconst 0, 1) := dk_3 (dk_at dksX1_dutyBy_1 10 rfl rfl)
theorem dX1_dutyBy_34 : decode cX1_dutyBy 34 = .ok (.iload_n 2, 1) := dk_28 (dk_at dksX1_dutyBy_1 11 rfl rfl)
theorem dX1_dutyBy_35 : decode cX1_dutyBy 35 = .ok (.invokevirtual 234, 3) := dk_182 0 234 (dk_at dksX1_dutyBy_1 12 rfl rfl)
theorem dX1_dutyBy_38 : decode cX1_dutyBy 38 = .ok (.istore_n 3, 1) := dk_62 (dk_at dksX1_dutyBy_1 15 rfl rfl)
theorem dX1_dutyBy_39 : decode cX1_dutyBy 39 = .ok (.iload_n 3, 1) := dk_29 (dk_at dksX1_dutyBy_1 16 rfl rfl)
theorem dX1_dutyBy_40 : decode cX1_dutyBy 40 = .ok (.ifCond .eq 9, 3) := dk_153 0 9 (dk_at dksX1_dutyBy_1 17 rfl rfl)
theorem dX1_dutyBy_43 : decode cX1_dutyBy 43 = .ok (.aload_n 0, 1) := dk_42 (dk_at dksX1_dutyBy_1 20 rfl rfl)
theorem dX1_dutyBy_44 : decode cX1_dutyBy 44 = .ok (.iload_n 3, 1) := dk_29 (dk_at dksX1_dutyBy_1 21 rfl rfl)
theorem dX1_dutyBy_45 : decode cX1_dutyBy 45 = .ok (.invokevirtual 107, 3) := dk_182 0 107 (dk_at dksX1_dutyBy_2 0 rfl rfl)
theorem dX1_dutyBy_48 : decode cX1_dutyBy 48 = .ok (.ireturn, 1) := dk_172 (dk_at dksX1_dutyBy_2 3 rfl rfl)
theorem dX1_dutyBy_49 : decode cX1_dutyBy 49 = .ok (.iconst 0, 1) := dk_3 (dk_at dksX1_dutyBy_2 4 rfl rfl)
theorem dX1_dutyBy_50 : decode cX1_dutyBy 50 = .ok (.istore 4, 2) := dk_54 4 (dk_at dksX1_dutyBy_2 5 rfl rfl)
theorem dX1_dutyBy_52 : decode cX1_dutyBy 52 = .ok (.iconst 0, 1) := dk_3 (dk_at dksX1_dutyBy_2 7 rfl rfl)
theorem dX1_dutyBy_53 : decode cX1_dutyBy 53 = .ok (.istore 5, 2) := dk_54 5 (dk_at dksX1_dutyBy_2 8 rfl rfl)
theorem dX1_dutyBy_55 : decode cX1_dutyBy 55 = .ok (.iload 5, 2) := dk_21 5 (dk_at dksX1_dutyBy_2 10 rfl rfl)
theorem dX1_dutyBy_57 : decode cX1_dutyBy 57 = .ok (.aload_n 0, 1) := dk_42 (dk_at dksX1_dutyBy_2 12 rfl rfl)
theorem dX1_dutyBy_58 : decode cX1_dutyBy 58 = .ok (.getfield 118, 3) := dk_180 0 118 (dk_at dksX1_dutyBy_2 13 rfl rfl)
theorem dX1_dutyBy_61 : decode cX1_dutyBy 61 = .ok (.getfield 142, 3) := dk_180 0 142 (dk_at dksX1_dutyBy_2 16 rfl rfl)
theorem dX1_dutyBy_64 : decode cX1_dutyBy 64 = .ok (.if_icmp .ge 78, 3) := dk_162 0 78 (dk_at dksX1_dutyBy_2 19 rfl rfl)
theorem dX1_dutyBy_67 : decode cX1_dutyBy 67 = .ok (.iload 4, 2) := dk_21 4 (dk_at dksX1_dutyBy_2 22 rfl rfl)
theorem dX1_dutyBy_69 : decode cX1_dutyBy 69 = .ok (.aload_n 0, 1) := dk_42 (dk_at dksX1_dutyBy_3 0 rfl rfl)
theorem dX1_dutyBy_70 : decode cX1_dutyBy 70 = .ok (.getfield 33, 3) := dk_180 0 33 (dk_at dksX1_dutyBy_3 1 rfl rfl)
theorem dX1_dutyBy_73 : decode cX1_dutyBy 73 = .ok (.getfield 182, 3) := dk_180 0 182 (dk_at dksX1_dutyBy_3 4 rfl rfl)
theorem dX1_dutyBy_76 : decode cX1_dutyBy 76 = .ok (.iload 5, 2) := dk_21 5 (dk_at dksX1_dutyBy_3 7 rfl rfl)
theorem dX1_dutyBy_78 : decode cX1_dutyBy 78 = .ok (.iaload, 1) := dk_46 (dk_at dksX1_dutyBy_3 9 rfl rfl)
theorem dX1_dutyBy_79 : decode cX1_dutyBy 79 = .ok (.ifCond .ne 53, 3) := dk_154 0 53 (dk_at dksX1_dutyBy_3 10 rfl rfl)
theorem dX1_dutyBy_82 : decode cX1_dutyBy 82 = .ok (.aload_n 0, 1) := dk_42 (dk_at dksX1_dutyBy_3 13 rfl rfl)
theorem dX1_dutyBy_83 : decode cX1_dutyBy 83 = .ok (.getfield 118, 3) := dk_180 0 118 (dk_at dksX1_dutyBy_3 14 rfl rfl)
theorem dX1_dutyBy_86 : decode cX1_dutyBy 86 = .ok (.getfield 157, 3) := dk_180 0 157 (dk_at dksX1_dutyBy_3 17 rfl rfl)
theorem dX1_dutyBy_89 : decode cX1_dutyBy 89 = .ok (.iload 5, 2) := dk_21 5 (dk_at dksX1_dutyBy_3 20 rfl rfl)
theorem dX1_dutyBy_91 : decode cX1_dutyBy 91 = .ok (.aaload, 1) := dk_50 (dk_at dksX1_dutyBy_3 22 rfl rfl)
theorem dX1_dutyBy_92 : decode cX1_dutyBy 92 = .ok (.invokevirtual 167, 3) := dk_182 0 167 (dk_at dksX1_dutyBy_4 0 rfl rfl)
theorem dX1_dutyBy_95 : decode cX1_dutyBy 95 = .ok (.aload_n 0, 1) := dk_42 (dk_at dksX1_dutyBy_4 3 rfl rfl)
theorem dX1_dutyBy_96 : decode cX1_dutyBy 96 = .ok (.getfield 118, 3) := dk_180 0 118 (dk_at dksX1_dutyBy_4 4 rfl rfl)
theorem dX1_dutyBy_99 : decode cX1_dutyBy 99 = .ok (.getfield 275, 3) := dk_180 1 19 (dk_at dksX1_dutyBy_4 7 rfl rfl)
theorem dX1_dutyBy_102 : decode cX1_dutyBy 102 = .ok (.iload_n 1, 1) := dk_27 (dk_at dksX1_dutyBy_4 10 rfl rfl)
theorem dX1_dutyBy_103 : decode cX1_dutyBy 103 = .ok (.aaload, 1) := dk_50 (dk_at dksX1_dutyBy_4 11 rfl rfl)
theorem dX1_dutyBy_104 : decode cX1_dutyBy 104 = .ok (.if_acmp .ne 28, 3) := dk_166 0 28 (dk_at dksX1_dutyBy_4 12 rfl rfl)
theorem dX1_dutyBy_107 : decode cX1_dutyBy 107 = .ok (.aload_n 0, 1) := dk_42 (dk_at dksX1_dutyBy_4 15 rfl rfl)
theorem dX1_dutyBy_108 : decode cX1_dutyBy 108 = .ok (.getfield 118, 3) := dk_180 0 118 (dk_at dksX1_dutyBy_4 16 rfl rfl)
theorem dX1_dutyBy_111 : decode cX1_dutyBy 111 = .ok (.getfield 157, 3) := dk_180 0 157 (dk_at dksX1_dutyBy_4 19 rfl rfl)
theorem dX1_dutyBy_114 : decode cX1_dutyBy 114 = .ok (.iload 5, 2) := dk_21 5 (dk_at dksX1_dutyBy_4 22 rfl rfl)
theorem dX1_dutyBy_116 : decode cX1_dutyBy 116 = .ok (.aaload, 1) := dk_50 (dk_at dksX1_dutyBy_5 0 rfl rfl)
theorem dX1_dutyBy_117 : decode cX1_dutyBy 117 = .ok (.aload_n 0, 1) := dk_42 (dk_at dksX1_dutyBy_5 1 rfl rfl)
theorem dX1_dutyBy_118 : decode cX1_dutyBy 118 = .ok (.iload_n 2, 1) := dk_28 (dk_at dksX1_dutyBy_5 2 rfl rfl)
theorem dX1_dutyBy_119 : decode cX1_dutyBy 119 = .ok (.invokevirtual 238, 3) := dk_182 0 238 (dk_at dksX1_dutyBy_5 3 rfl rfl)
theorem dX1_dutyBy_122 : decode cX1_dutyBy 122 = .ok (.aload_n 0, 1) := dk_42 (dk_at dksX1_dutyBy_5 6 rfl rfl)
theorem dX1_dutyBy_123 : decode cX1_dutyBy 123 = .ok (.getfield 43, 3) := dk_180 0 43 (dk_at dksX1_dutyBy_5 7 rfl rfl)
theorem dX1_dutyBy_126 : decode cX1_dutyBy 126 = .ok (.invokevirtual 247, 3) := dk_182 0 247 (dk_at dksX1_dutyBy_5 10 rfl rfl)
theorem dX1_dutyBy_129 : decode cX1_dutyBy 129 = .ok (.goto 4, 3) := dk_167 0 4 (dk_at dksX1_dutyBy_5 13 rfl rfl)
theorem dX1_dutyBy_132 : decode cX1_dutyBy 132 = .ok (.iconst 0, 1) := dk_3 (dk_at dksX1_dutyBy_5 16 rfl rfl)
theorem dX1_dutyBy_133 : decode cX1_dutyBy 133 = .ok (.iadd, 1) := dk_96 (dk_at dksX1_dutyBy_5 17 rfl rfl)
theorem dX1_dutyBy_134 : decode cX1_dutyBy 134 = .ok (.istore 4, 2) := dk_54 4 (dk_at dksX1_dutyBy_5 18 rfl rfl)
theorem dX1_dutyBy_136 : decode cX1_dutyBy 136 = .ok (.iinc 5 1, 3) := dk_132 5 1 (dk_at dksX1_dutyBy_5 20 rfl rfl)
theorem dX1_dutyBy_139 : decode cX1_dutyBy 139 = .ok (.goto (-84), 3) := dk_167 255 172 (dk_at dksX1_dutyBy_6 0 rfl rfl)
theorem dX1_dutyBy_142 : decode cX1_dutyBy 142 = .ok (.iload 4, 2) := dk_21 4 (dk_at dksX1_dutyBy_6 3 rfl rfl)
theorem dX1_dutyBy_144 : decode cX1_dutyBy 144 = .ok (.ireturn, 1) := dk_172 (dk_at dksX1_dutyBy_6 5 rfl rfl)
abbrev cX1_nearest : ByteArray := prog_1_method_35_code
def yX1_nearest : MethodName := ⟨RX1, "nearest", "(III)I"⟩
def dkwX1_nearest_5 : List UInt8 := [29, 182, 0, 238, 182, 0, 251, 164, 0, 7, 21, 7, 54, 6, 132, 7, 1, 167, 255, 189, 21, 6, 172]
abbrev dktX1_nearest_5 : List UInt8 := dkwX1_nearest_5 ++ []
def dkwX1_nearest_4 : List UInt8 := [159, 0, 34, 42, 180, 0, 33, 21, 7, 42, 29, 182, 0, 238, 182, 0, 251, 42, 180, 0, 33, 21, 6, 42]
abbrev dktX1_nearest_4 : List UInt8 := dkwX1_nearest_4 ++ dktX1_nearest_5
def dkwX1_nearest_3 : List UInt8 := [180, 0, 118, 180, 0, 142, 162, 0, 61, 21, 5, 21, 7, 184, 0, 189, 153, 0, 45, 21, 6, 16, 254]
abbrev dktX1_nearest_3 : List UInt8 := dkwX1_nearest_3 ++ dktX1_nearest_4
def dkwX1_nearest_2 : List UInt8 := [29, 182, 0, 238, 182, 1, 2, 2, 130, 126, 54, 5, 16, 254, 54, 6, 3, 54, 7, 21, 7, 42]
abbrev dktX1_nearest_2 : List UInt8 := dkwX1_nearest_2 ++ dktX1_nearest_3
def dkwX1_nearest_1 : List UInt8 := [172, 42, 180, 0, 33, 27, 182, 0, 211, 42, 180, 0, 33, 180, 0, 186, 126, 42, 180, 0, 33, 27, 28, 42]
abbrev dktX1_nearest_1 : List UInt8 := dkwX1_nearest_1 ++ dktX1_nearest_2
def dkwX1_nearest_0 : List UInt8 := [42, 182, 0, 93, 42, 27, 28, 29, 182, 1, 10, 54, 4, 21, 4, 153, 0, 10, 42, 21, 4, 182, 0, 107]
abbrev dktX1_nearest_0 : List UInt8 := dkwX1_nearest_0 ++ dktX1_nearest_1
theorem dksX1_nearest_0 : cX1_nearest.data.toList.drop 0 = dktX1_nearest_0 := by decide +kernel
theorem dksX1_nearest_1 : cX1_nearest.data.toList.drop 24 = dktX1_nearest_1 := dk_seg dksX1_nearest_0 24 rfl rfl
theorem dksX1_nearest_2 : cX1_nearest.data.toList.drop 48 = dktX1_nearest_2 := dk_seg dksX1_nearest_1 24 rfl rfl
theorem dksX1_nearest_3 : cX1_nearest.data.toList.drop 70 = dktX1_nearest_3 := dk_seg dksX1_nearest_2 22 rfl rfl
theorem dksX1_nearest_4 : cX1_nearest.data.toList.drop 93 = dktX1_nearest_4 := dk_seg dksX1_nearest_3 23 rfl rfl
theorem dksX1_nearest_5 : cX1_nearest.data.toList.drop 117 = dktX1_nearest_5 := dk_seg dksX1_nearest_4 24 rfl rfl
theorem dX1_nearest_0 : decode cX1_nearest 0 = .ok (.aload_n 0, 1) := dk_42 (dk_at dksX1_nearest_0 0 rfl rfl)
theorem dX1_nearest_1 : decode cX1_nearest 1 = .ok (.invokevirtual 93, 3) := dk_182 0 93 (dk_at dksX1_nearest_0 1 rfl rfl)
theorem dX1_nearest_4 : decode cX1_nearest 4 = .ok (.aload_n 0, 1) := dk_42 (dk_at dksX1_nearest_0 4 rfl rfl)
theorem dX1_nearest_5 : decode cX1_nearest 5 = .ok (.iload_n 1, 1) := dk_27 (dk_at dksX1_nearest_0 5 rfl rfl)
theorem dX1_nearest_6 : decode cX1_nearest 6 = .ok (.iload_n 2, 1) := dk_28 (dk_at dksX1_nearest_0 6 rfl rfl)
theorem dX1_nearest_7 : decode cX1_nearest 7 = .ok (.iload_n 3, 1) := dk_29 (dk_at dksX1_nearest_0 7 rfl rfl)
theorem dX1_nearest_8 : decode cX1_nearest 8 = .ok (.invokevirtual 266, 3) := dk_182 1 10 (dk_at dksX1_nearest_0 8 rfl rfl)
theorem dX1_nearest_11 : decode cX1_nearest 11 = .ok (.istore 4, 2) := dk_54 4 (dk_at dksX1_nearest_0 11 rfl rfl)
theorem dX1_nearest_13 : decode cX1_nearest 13 = .ok (.iload 4, 2) := dk_21 4 (dk_at dksX1_nearest_0 13 rfl rfl)
theorem dX1_nearest_15 : decode cX1_nearest 15 = .ok (.ifCond .eq 10, 3) := dk_153 0 10 (dk_at dksX1_nearest_0 15 rfl rfl)
theorem dX1_nearest_18 : decode cX1_nearest 18 = .ok (.aload_n 0, 1) := dk_42 (dk_at dksX1_nearest_0 18 rfl rfl)
theorem dX1_nearest_19 : decode cX1_nearest 19 = .ok (.iload 4, 2) := dk_21 4 (dk_at dksX1_nearest_0 19 rfl rfl)
theorem dX1_nearest_21 : decode cX1_nearest 21 = .ok (.invokevirtual 107, 3) := dk_182 0 107 (dk_at dksX1_nearest_0 21 rfl rfl)
theorem dX1_nearest_24 : decode cX1_nearest 24 = .ok (.ireturn, 1) := dk_172 (dk_at dksX1_nearest_1 0 rfl rfl)
theorem dX1_nearest_25 : decode cX1_nearest 25 = .ok (.aload_n 0, 1) := dk_42 (dk_at dksX1_nearest_1 1 rfl rfl)
theorem dX1_nearest_26 : decode cX1_nearest 26 = .ok (.getfield 33, 3) := dk_180 0 33 (dk_at dksX1_nearest_1 2 rfl rfl)
theorem dX1_nearest_29 : decode cX1_nearest 29 = .ok (.iload_n 1, 1) := dk_27 (dk_at dksX1_nearest_1 5 rfl rfl)
theorem dX1_nearest_30 : decode cX1_nearest 30 = .ok (.invokevirtual 211, 3) := dk_182 0 211 (dk_at dksX1_nearest_1 6 rfl rfl)
theorem dX1_nearest_33 : decode cX1_nearest 33 = .ok (.aload_n 0, 1) := dk_42 (dk_at dksX1_nearest_1 9 rfl rfl)
theorem dX1_nearest_34 : decode cX1_nearest 34 = .ok (.getfield 33, 3) := dk_180 0 33 (dk_at dksX1_nearest_1 10 rfl rfl)
theorem dX1_nearest_37 : decode cX1_nearest 37 = .ok (.getfield 186, 3) := dk_180 0 186 (dk_at dksX1_nearest_1 13 rfl rfl)
theorem dX1_nearest_40 : decode cX1_nearest 40 = .ok (.iand, 1) := dk_126 (dk_at dksX1_nearest_1 16 rfl rfl)
theorem dX1_nearest_41 : decode cX1_nearest 41 = .ok (.aload_n 0, 1) := dk_42 (dk_at dksX1_nearest_1 17 rfl rfl)
theorem dX1_nearest_42 : decode cX1_nearest 42 = .ok (.getfield 33, 3) := dk_180 0 33 (dk_at dksX1_nearest_1 18 rfl rfl)
theorem dX1_nearest_45 : decode cX1_nearest 45 = .ok (.iload_n 1, 1) := dk_27 (dk_at dksX1_nearest_1 21 rfl rfl)
theorem dX1_nearest_46 : decode cX1_nearest 46 = .ok (.iload_n 2, 1) := dk_28 (dk_at dksX1_nearest_1 22 rfl rfl)
theorem dX1_nearest_47 : decode cX1_nearest 47 = .ok (.aload_n 0, 1) := dk_42 (dk_at dksX1_nearest_1 23 rfl rfl)
theorem dX1_nearest_48 : decode cX1_nearest 48 = .ok (.iload_n 3, 1) := dk_29 (dk_at dksX1_nearest_2 0 rfl rfl)
theorem dX1_nearest_49 : decode cX1_nearest 49 = .ok (.invokevirtual 238, 3) := dk_182 0 238 (dk_at dksX1_nearest_2 1 rfl rfl)
theorem dX1_nearest_52 : decode cX1_nearest 52 = .ok (.invokevirtual 258, 3) := dk_182 1 2 (dk_at dksX1_nearest_2 4 rfl rfl)
theorem dX1_nearest_55 : decode cX1_nearest 55 = .ok (.iconst (-1), 1) := dk_2 (dk_at dksX1_nearest_2 7 rfl rfl)
theorem dX1_nearest_56 : decode cX1_nearest 56 = .ok (.ixor, 1) := dk_130 (dk_at dksX1_nearest_2 8 rfl rfl)
theorem dX1_nearest_57 : decode cX1_nearest 57 = .ok (.iand, 1) := dk_126 (dk_at dksX1_nearest_2 9 rfl rfl)
theorem dX1_nearest_58 : decode cX1_nearest 58 = .ok (.istore 5, 2) := dk_54 5 (dk_at dksX1_nearest_2 10 rfl rfl)
theorem dX1_nearest_60 : decode cX1_nearest 60 = .ok (.bipush (-2), 2) := dk_16 254 (dk_at dksX1_nearest_2 12 rfl rfl)
theorem dX1_nearest_62 : decode cX1_nearest 62 = .ok (.istore 6, 2) := dk_54 6 (dk_at dksX1_nearest_2 14 rfl rfl)
theorem dX1_nearest_64 : decode cX1_nearest 64 = .ok (.iconst 0, 1) := dk_3 (dk_at dksX1_nearest_2 16 rfl rfl)
theorem dX1_nearest_65 : decode cX1_nearest 65 = .ok (.istore 7, 2) := dk_54 7 (dk_at dksX1_nearest_2 17 rfl rfl)
theorem dX1_nearest_67 : decode cX1_nearest 67 = .ok (.iload 7, 2) := dk_21 7 (dk_at dksX1_nearest_2 19 rfl rfl)
theorem dX1_nearest_69 : decode cX1_nearest 69 = .ok (.aload_n 0, 1) := dk_42 (dk_at dksX1_nearest_2 21 rfl rfl)
theorem dX1_nearest_70 : decode cX1_nearest 70 = .ok (.getfield 118, 3) := dk_180 0 118 (dk_at dksX1_nearest_3 0 rfl rfl)
theorem dX1_nearest_73 : decode cX1_nearest 73 = .ok (.getfield 142, 3) := dk_180 0 142 (dk_at dksX1_nearest_3 3 rfl rfl)
theorem dX1_nearest_76 : decode cX1_nearest 76 = .ok (.if_icmp .ge 61, 3) := dk_162 0 61 (dk_at dksX1_nearest_3 6 rfl rfl)
theorem dX1_nearest_79 : decode cX1_nearest 79 = .ok (.iload 5, 2) := dk_21 5 (dk_at dksX1_nearest_3 9 rfl rfl)
theorem dX1_nearest_81 : decode cX1_nearest 81 = .ok (.iload 7, 2) := dk_21 7 (dk_at dksX1_nearest_3 11 rfl rfl)
theorem dX1_nearest_83 : decode cX1_nearest 83 = .ok (.invokestatic 189, 3) := dk_184 0 189 (dk_at dksX1_nearest_3 13 rfl rfl)
theorem dX1_nearest_86 : decode cX1_nearest 86 = .ok (.ifCond .eq 45, 3) := dk_153 0 45 (dk_at dksX1_nearest_3 16 rfl rfl)
theorem dX1_nearest_89 : decode cX1_nearest 89 = .ok (.iload 6, 2) := dk_21 6 (dk_at dksX1_nearest_3 19 rfl rfl)
theorem dX1_nearest_91 : decode cX1_nearest 91 = .ok (.bipush (-2), 2) := dk_16 254 (dk_at dksX1_nearest_3 21 rfl rfl)
theorem dX1_nearest_93 : decode cX1_nearest 93 = .ok (.if_icmp .eq 34, 3) := dk_159 0 34 (dk_at dksX1_nearest_4 0 rfl rfl)
theorem dX1_nearest_96 : decode cX1_nearest 96 = .ok (.aload_n 0, 1) := dk_42 (dk_at dksX1_nearest_4 3 rfl rfl)
theorem dX1_nearest_97 : decode cX1_nearest 97 = .ok (.getfield 33, 3) := dk_180 0 33 (dk_at dksX1_nearest_4 4 rfl rfl)
theorem dX1_nearest_100 : decode cX1_nearest 100 = .ok (.iload 7, 2) := dk_21 7 (dk_at dksX1_nearest_4 7 rfl rfl)
theorem dX1_nearest_102 : decode cX1_nearest 102 = .ok (.aload_n 0, 1) := dk_42 (dk_at dksX1_nearest_4 9 rfl rfl)
theorem dX1_nearest_103 : decode cX1_nearest 103 = .ok (.iload_n 3, 1) := dk_29 (dk_at dksX1_nearest_4 10 rfl rfl)
theorem dX1_nearest_104 : decode cX1_nearest 104 = .ok (.invokevirtual 238, 3) := dk_182 0 238 (dk_at dksX1_nearest_4 11 rfl rfl)
theorem dX1_nearest_107 : decode cX1_nearest 107 = .ok (.invokevirtual 251, 3) := dk_182 0 251 (dk_at dksX1_nearest_4 14 rfl rfl)
theorem dX1_nearest_110 : decode cX1_nearest 110 = .ok (.aload_n 0, 1) := dk_42 (dk_at dksX1_nearest_4 17 rfl rfl)
theorem dX1_nearest_111 : decode cX1_nearest 111 = .ok (.getfield 33, 3) := dk_180 0 33 (dk_at dksX1_nearest_4 18 rfl rfl)
theorem dX1_nearest_114 : decode cX1_nearest 114 = .ok (.iload 6, 2) := dk_21 6 (dk_at dksX1_nearest_4 21 rfl rfl)
theorem dX1_nearest_116 : decode cX1_nearest 116 = .ok (.aload_n 0, 1) := dk_42 (dk_at dksX1_nearest_4 23 rfl rfl)
theorem dX1_nearest_117 : decode cX1_nearest 117 = .ok (.iload_n 3, 1) := dk_29 (dk_at dksX1_nearest_5 0 rfl rfl)
theorem dX1_nearest_118 : decode cX1_nearest 118 = .ok (.invokevirtual 238, 3) := dk_182 0 238 (dk_at dksX1_nearest_5 1 rfl rfl)
theorem dX1_nearest_121 : decode cX1_nearest 121 = .ok (.invokevirtual 251, 3) := dk_182 0 251 (dk_at dksX1_nearest_5 4 rfl rfl)
theorem dX1_nearest_124 : decode cX1_nearest 124 = .ok (.if_icmp .le 7, 3) := dk_164 0 7 (dk_at dksX1_nearest_5 7 rfl rfl)
theorem dX1_nearest_127 : decode cX1_nearest 127 = .ok (.iload 7, 2) := dk_21 7 (dk_at dksX1_nearest_5 10 rfl rfl)
theorem dX1_nearest_129 : decode cX1_nearest 129 = .ok (.istore 6, 2) := dk_54 6 (dk_at dksX1_nearest_5 12 rfl rfl)
theorem dX1_nearest_131 : decode cX1_nearest 131 = .ok (.iinc 7 1, 3) := dk_132 7 1 (dk_at dksX1_nearest_5 14 rfl rfl)
theorem dX1_nearest_134 : decode cX1_nearest 134 = .ok (.goto (-67), 3) := dk_167 255 189 (dk_at dksX1_nearest_5 17 rfl rfl)
theorem dX1_nearest_137 : decode cX1_nearest 137 = .ok (.iload 6, 2) := dk_21 6 (dk_at dksX1_nearest_5 20 rfl rfl)
theorem dX1_nearest_139 : decode cX1_nearest 139 = .ok (.ireturn, 1) := dk_172 (dk_at dksX1_nearest_5 22 rfl rfl)
abbrev cX1_bestGate : ByteArray := prog_1_method_36_code
def yX1_bestGate : MethodName := ⟨RX1, "bestGate", "(II)I"⟩
def dkwX1_bestGate_3 : List UInt8 := [54, 4, 132, 5, 1, 167, 255, 210, 21, 4, 172]
abbrev dktX1_bestGate_3 : List UInt8 := dkwX1_bestGate_3 ++ []
def dkwX1_bestGate_2 : List UInt8 := [42, 180, 0, 43, 182, 1, 13, 42, 27, 21, 4, 28, 42, 180, 0, 43, 182, 1, 13, 162, 0, 7, 21, 5]
abbrev dktX1_bestGate_2 : List UInt8 := dkwX1_bestGate_2 ++ dktX1_bestGate_3
def dkwX1_bestGate_1 : List UInt8 := [172, 3, 54, 4, 4, 54, 5, 21, 5, 42, 180, 0, 118, 180, 0, 150, 162, 0, 40, 42, 27, 21, 5, 28]
abbrev dktX1_bestGate_1 : List UInt8 := dkwX1_bestGate_1 ++ dktX1_bestGate_2
def dkwX1_bestGate_0 : List UInt8 := [42, 182, 0, 93, 42, 42, 27, 182, 0, 193, 28, 182, 0, 234, 62, 29, 153, 0, 9, 42, 29, 182, 0, 107]
abbrev dktX1_bestGate_0 : List UInt8 := dkwX1_bestGate_0 ++ dktX1_bestGate_1
theorem dksX1_bestGate_0 : cX1_bestGate.data.toList.drop 0 = dktX1_bestGate_0 := by decide +kernel
theorem dksX1_bestGate_1 : cX1_bestGate.data.toList.drop 24 = dktX1_bestGate_1 := dk_seg dksX1_bestGate_0 24 rfl rfl
theorem dksX1_bestGate_2 : cX1_bestGate.data.toList.drop 48 = dktX1_bestGate_2 := dk_seg dksX1_bestGate_1 24 rfl rfl
theorem dksX1_bestGate_3 : cX1_bestGate.data.toList.drop 72 = dktX1_bestGate_3 := dk_seg dksX1_bestGate_2 24 rfl rfl
theorem dX1_bestGate_0 : decode cX1_bestGate 0 = .ok (.aload_n 0, 1) := dk_42 (dk_at dksX1_bestGate_0 0 rfl rfl)
theorem dX1_bestGate_1 : decode cX1_bestGate 1 = .ok (.invokevirtual 93, 3) := dk_182 0 93 (dk_at dksX1_bestGate_0 1 rfl rfl)
theorem dX1_bestGate_4 : decode cX1_bestGate 4 = .ok (.aload_n 0, 1) := dk_42 (dk_at dksX1_bestGate_0 4 rfl rfl)
theorem dX1_bestGate_5 : decode cX1_bestGate 5 = .ok (.aload_n 0, 1) := dk_42 (dk_at dksX1_bestGate_0 5 rfl rfl)
theorem dX1_bestGate_6 : decode cX1_bestGate 6 = .ok (.iload_n 1, 1) := dk_27 (dk_at dksX1_bestGate_0 6 rfl rfl)
theorem dX1_bestGate_7 : decode cX1_bestGate 7 = .ok (.invokevirtual 193, 3) := dk_182 0 193 (dk_at dksX1_bestGate_0 7 rfl rfl)
theorem dX1_bestGate_10 : decode cX1_bestGate 10 = .ok (.iload_n 2, 1) := dk_28 (dk_at dksX1_bestGate_0 10 rfl rfl)
theorem dX1_bestGate_11 : decode cX1_bestGate 11 = .ok (.invokevirtual 234, 3) := dk_182 0 234 (dk_at dksX1_bestGate_0 11 rfl rfl)
theorem dX1_bestGate_14 : decode cX1_bestGate 14 = .ok (.istore_n 3, 1) := dk_62 (dk_at dksX1_bestGate_0 14 rfl rfl)
theorem dX1_bestGate_15 : decode cX1_bestGate 15 = .ok (.iload_n 3, 1) := dk_29 (dk_at dksX1_bestGate_0 15 rfl rfl)
theorem dX1_bestGate_16 : decode cX1_bestGate 16 = .ok (.ifCond .eq 9, 3) := dk_153 0 9 (dk_at dksX1_bestGate_0 16 rfl rfl)
theorem dX1_bestGate_19 : decode cX1_bestGate 19 = .ok (.aload_n 0, 1) := dk_42 (dk_at dksX1_bestGate_0 19 rfl rfl)
theorem dX1_bestGate_20 : decode cX1_bestGate 20 = .ok (.iload_n 3, 1) := dk_29 (dk_at dksX1_bestGate_0 20 rfl rfl)
theorem dX1_bestGate_21 : decode cX1_bestGate 21 = .ok (.invokevirtual 107, 3) := dk_182 0 107 (dk_at dksX1_bestGate_0 21 rfl rfl)
theorem dX1_bestGate_24 : decode cX1_bestGate 24 = .ok (.ireturn, 1) := dk_172 (dk_at dksX1_bestGate_1 0 rfl rfl)
theorem dX1_bestGate_25 : decode cX1_bestGate 25 = .ok (.iconst 0, 1) := dk_3 (dk_at dksX1_bestGate_1 1 rfl rfl)
theorem dX1_bestGate_26 : decode cX1_bestGate 26 = .ok (.istore 4, 2) := dk_54 4 (dk_at dksX1_bestGate_1 2 rfl rfl)
theorem dX1_bestGate_28 : decode cX1_bestGate 28 = .ok (.iconst 1, 1) := dk_4 (dk_at dksX1_bestGate_1 4 rfl rfl)
theorem dX1_bestGate_29 : decode cX1_bestGate 29 = .ok (.istore 5, 2) := dk_54 5 (dk_at dksX1_bestGate_1 5 rfl rfl)
theorem dX1_bestGate_31 : decode cX1_bestGate 31 = .ok (.iload 5, 2) := dk_21 5 (dk_at dksX1_bestGate_1 7 rfl rfl)
theorem dX1_bestGate_33 : decode cX1_bestGate 33 = .ok (.aload_n 0, 1) := dk_42 (dk_at dksX1_bestGate_1 9 rfl rfl)
theorem dX1_bestGate_34 : decode cX1_bestGate 34 = .ok (.getfield 118, 3) := dk_180 0 118 (dk_at dksX1_bestGate_1 10 rfl rfl)
theorem dX1_bestGate_37 : decode cX1_bestGate 37 = .ok (.getfield 150, 3) := dk_180 0 150 (dk_at dksX1_bestGate_1 13 rfl rfl)
theorem dX1_bestGate_40 : decode cX1_bestGate 40 = .ok (.if_icmp .ge 40, 3) := dk_162 0 40 (dk_at dksX1_bestGate_1 16 rfl rfl)
theorem dX1_bestGate_43 : decode cX1_bestGate 43 = .ok (.aload_n 0, 1) := dk_42 (dk_at dksX1_bestGate_1 19 rfl rfl)
theorem dX1_bestGate_44 : decode cX1_bestGate 44 = .ok (.iload_n 1, 1) := dk_27 (dk_at dksX1_bestGate_1 20 rfl rfl)
theorem dX1_bestGate_45 : decode cX1_bestGate 45 = .ok (.iload 5, 2) := dk_21 5 (dk_at dksX1_bestGate_1 21 rfl rfl)
theorem dX1_bestGate_47 : decode cX1_bestGate 47 = .ok (.iload_n 2, 1) := dk_28 (dk_at dksX1_bestGate_1 23 rfl rfl)
theorem dX1_bestGate_48 : decode cX1_bestGate 48 = .ok (.aload_n 0, 1) := dk_42 (dk_at dksX1_bestGate_2 0 rfl rfl)
theorem dX1_bestGate_49 : decode cX1_bestGate 49 = .ok (.getfield 43, 3) := dk_180 0 43 (dk_at dksX1_bestGate_2 1 rfl rfl)
theorem dX1_bestGate_52 : decode cX1_bestGate 52 = .ok (.invokevirtual 269, 3) := dk_182 1 13 (dk_at dksX1_bestGate_2 4 rfl rfl)
theorem dX1_bestGate_55 : decode cX1_bestGate 55 = .ok (.aload_n 0, 1) := dk_42 (dk_at dksX1_bestGate_2 7 rfl rfl)
theorem dX1_bestGate_56 : decode cX1_bestGate 56 = .ok (.iload_n 1, 1) := dk_27 (dk_at dksX1_bestGate_2 8 rfl rfl)
theorem dX1_bestGate_57 : decode cX1_bestGate 57 = .ok (.iload 4, 2) := dk_21 4 (dk_at dksX1_bestGate_2 9 rfl rfl)
theorem dX1_bestGate_59 : decode cX1_bestGate 59 = .ok (.iload_n 2, 1) := dk_28 (dk_at dksX1_bestGate_2 11 rfl rfl)
theorem dX1_bestGate_60 : decode cX1_bestGate 60 = .ok (.aload_n 0, 1) := dk_42 (dk_at dksX1_bestGate_2 12 rfl rfl)
theorem dX1_bestGate_61 : decode cX1_bestGate 61 = .ok (.getfield 43, 3) := dk_180 0 43 (dk_at dksX1_bestGate_2 13 rfl rfl)
theorem dX1_bestGate_64 : decode cX1_bestGate 64 = .ok (.invokevirtual 269, 3) := dk_182 1 13 (dk_at dksX1_bestGate_2 16 rfl rfl)
theorem dX1_bestGate_67 : decode cX1_bestGate 67 = .ok (.if_icmp .ge 7, 3) := dk_162 0 7 (dk_at dksX1_bestGate_2 19 rfl rfl)
theorem dX1_bestGate_70 : decode cX1_bestGate 70 = .ok (.iload 5, 2) := dk_21 5 (dk_at dksX1_bestGate_2 22 rfl rfl)
theorem dX1_bestGate_72 : decode cX1_bestGate 72 = .ok (.istore 4, 2) := dk_54 4 (dk_at dksX1_bestGate_3 0 rfl rfl)
theorem dX1_bestGate_74 : decode cX1_bestGate 74 = .ok (.iinc 5 1, 3) := dk_132 5 1 (dk_at dksX1_bestGate_3 2 rfl rfl)
theorem dX1_bestGate_77 : decode cX1_bestGate 77 = .ok (.goto (-46), 3) := dk_167 255 210 (dk_at dksX1_bestGate_3 5 rfl rfl)
theorem dX1_bestGate_80 : decode cX1_bestGate 80 = .ok (.iload 4, 2) := dk_21 4 (dk_at dksX1_bestGate_3 8 rfl rfl)
theorem dX1_bestGate_82 : decode cX1_bestGate 82 = .ok (.ireturn, 1) := dk_172 (dk_at dksX1_bestGate_3 10 rfl rfl)
abbrev cX1_cheapestDay : ByteArray := prog_1_method_38_code
def yX1_cheapestDay : MethodName := ⟨RX1, "cheapestDay", "(II)I"⟩
def dkwX1_cheapestDay_1 : List UInt8 := [182, 1, 22, 167, 0, 8, 42, 4, 182, 0, 107, 172]
abbrev dktX1_cheapestDay_1 : List UInt8 := dkwX1_cheapestDay_1 ++ []
def dkwX1_cheapestDay_0 : List UInt8 := [42, 182, 0, 93, 42, 27, 182, 0, 193, 153, 0, 20, 42, 28, 182, 0, 213, 153, 0, 12, 42, 27, 28]
abbrev dktX1_cheapestDay_0 : List UInt8 := dkwX1_cheapestDay_0 ++ dktX1_cheapestDay_1
theorem dksX1_cheapestDay_0 : cX1_cheapestDay.data.toList.drop 0 = dktX1_cheapestDay_0 := by decide +kernel
theorem dksX1_cheapestDay_1 : cX1_cheapestDay.data.toList.drop 23 = dktX1_cheapestDay_1 := dk_seg dksX1_cheapestDay_0 23 rfl rfl
theorem dX1_cheapestDay_0 : decode cX1_cheapestDay 0 = .ok (.aload_n 0, 1) := dk_42 (dk_at dksX1_cheapestDay_0 0 rfl rfl)
theorem dX1_cheapestDay_1 : decode cX1_cheapestDay 1 = .ok (.invokevirtual 93, 3) := dk_182 0 93 (dk_at dksX1_cheapestDay_0 1 rfl rfl)
theorem dX1_cheapestDay_4 : decode cX1_cheapestDay 4 = .ok (.aload_n 0, 1) := dk_42 (dk_at dksX1_cheapestDay_0 4 rfl rfl)
theorem dX1_cheapestDay_5 : decode cX1_cheapestDay 5 = .ok (.iload_n 1, 1) := dk_27 (dk_at dksX1_cheapestDay_0 5 rfl rfl)
theorem dX1_cheapestDay_6 : decode cX1_cheapestDay 6 = .ok (.invokevirtual 193, 3) := dk_182 0 193 (dk_at dksX1_cheapestDay_0 6 rfl rfl)
theorem dX1_cheapestDay_9 : decode cX1_cheapestDay 9 = .ok (.ifCond .eq 20, 3) := dk_153 0 20 (dk_at dksX1_cheapestDay_0 9 rfl rfl)
theorem dX1_cheapestDay_12 : decode cX1_cheapestDay 12 = .ok (.aload_n 0, 1) := dk_42 (dk_at dksX1_cheapestDay_0 12 rfl rfl)
theorem dX1_cheapestDay_13 : decode cX1_cheapestDay 13 = .ok (.iload_n 2, 1) := dk_28 (dk_at dksX1_cheapestDay_0 13 rfl rfl)
theorem dX1_cheapestDay_14 : decode cX1_cheapestDay 14 = .ok (.invokevirtual 213, 3) := dk_182 0 213 (dk_at dksX1_cheapestDay_0 14 rfl rfl)
theorem dX1_cheapestDay_17 : decode cX1_cheapestDay 17 = .ok (.ifCond .eq 12, 3) := dk_153 0 12 (dk_at dksX1_cheapestDay_0 17 rfl rfl)
theorem dX1_cheapestDay_20 : decode cX1_cheapestDay 20 = .ok (.aload_n 0, 1) := dk_42 (dk_at dksX1_cheapestDay_0 20 rfl rfl)
theorem dX1_cheapestDay_21 : decode cX1_cheapestDay 21 = .ok (.iload_n 1, 1) := dk_27 (dk_at dksX1_cheapestDay_0 21 rfl rfl)
theorem dX1_cheapestDay_22 : decode cX1_cheapestDay 22 = .ok (.iload_n 2, 1) := dk_28 (dk_at dksX1_cheapestDay_0 22 rfl rfl)
theorem dX1_cheapestDay_23 : decode cX1_cheapestDay 23 = .ok (.invokevirtual 278, 3) := dk_182 1 22 (dk_at dksX1_cheapestDay_1 0 rfl rfl)
theorem dX1_cheapestDay_26 : decode cX1_cheapestDay 26 = .ok (.goto 8, 3) := dk_167 0 8 (dk_at dksX1_cheapestDay_1 3 rfl rfl)
theorem dX1_cheapestDay_29 : decode cX1_cheapestDay 29 = .ok (.aload_n 0, 1) := dk_42 (dk_at dksX1_cheapestDay_1 6 rfl rfl)
theorem dX1_cheapestDay_30 : decode cX1_cheapestDay 30 = .ok (.iconst 1, 1) := dk_4 (dk_at dksX1_cheapestDay_1 7 rfl rfl)
theorem dX1_cheapestDay_31 : decode cX1_cheapestDay 31 = .ok (.invokevirtual 107, 3) := dk_182 0 107 (dk_at dksX1_cheapestDay_1 8 rfl rfl)
theorem dX1_cheapestDay_34 : decode cX1_cheapestDay 34 = .ok (.ireturn, 1) := dk_172 (dk_at dksX1_cheapestDay_1 11 rfl rfl)
abbrev cX1_cheapestOf : ByteArray := prog_1_method_37_code
def yX1_cheapestOf : MethodName := ⟨RX1, "cheapestOf", "(II)I"⟩
def dkwX1_cheapestOf_2 : List UInt8 := [172]
abbrev dktX1_cheapestOf_2 : List UInt8 := dkwX1_cheapestOf_2 ++ []
def dkwX1_cheapestOf_1 : List UInt8 := [42, 27, 28, 29, 42, 180, 0, 43, 182, 1, 13, 162, 0, 6, 21, 4, 62, 132, 4, 1, 167, 255, 217, 29]
abbrev dktX1_cheapestOf_1 : List UInt8 := dkwX1_cheapestOf_1 ++ dktX1_cheapestOf_2
def dkwX1_cheapestOf_0 : List UInt8 := [3, 62, 4, 54, 4, 21, 4, 16, 60, 163, 0, 38, 42, 27, 28, 21, 4, 42, 180, 0, 43, 182, 1, 13]
abbrev dktX1_cheapestOf_0 : List UInt8 := dkwX1_cheapestOf_0 ++ dktX1_cheapestOf_1
theorem dksX1_cheapestOf_0 : cX1_cheapestOf.data.toList.drop 0 = dktX1_cheapestOf_0 := by decide +kernel
theorem dksX1_cheapestOf_1 : cX1_cheapestOf.data.toList.drop 24 = dktX1_cheapestOf_1 := dk_seg dksX1_cheapestOf_0 24 rfl rfl
theorem dksX1_cheapestOf_2 : cX1_cheapestOf.data.toList.drop 48 = dktX1_cheapestOf_2 := dk_seg dksX1_cheapestOf_1 24 rfl rfl
theorem dX1_cheapestOf_0 : decode cX1_cheapestOf 0 = .ok (.iconst 0, 1) := dk_3 (dk_at dksX1_cheapestOf_0 0 rfl rfl)
theorem dX1_cheapestOf_1 : decode cX1_cheapestOf 1 = .ok (.istore_n 3, 1) := dk_62 (dk_at dksX1_cheapestOf_0 1 rfl rfl)
theorem dX1_cheapestOf_2 : decode cX1_cheapestOf 2 = .ok (.iconst 1, 1) := dk_4 (dk_at dksX1_cheapestOf_0 2 rfl rfl)
theorem dX1_cheapestOf_3 : decode cX1_cheapestOf 3 = .ok (.istore 4, 2) := dk_54 4 (dk_at dksX1_cheapestOf_0 3 rfl rfl)
theorem dX1_cheapestOf_5 : decode cX1_cheapestOf 5 = .ok (.iload 4, 2) := dk_21 4 (dk_at dksX1_cheapestOf_0 5 rfl rfl)
theorem dX1_cheapestOf_7 : decode cX1_cheapestOf 7 = .ok (.bipush 60, 2) := dk_16 60 (dk_at dksX1_cheapestOf_0 7 rfl rfl)
theorem dX1_cheapestOf_9 : decode cX1_cheapestOf 9 = .ok (.if_icmp .gt 38, 3) := dk_163 0 38 (dk_at dksX1_cheapestOf_0 9 rfl rfl)
theorem dX1_cheapestOf_12 : decode cX1_cheapestOf 12 = .ok (.aload_n 0, 1) := dk_42 (dk_at dksX1_cheapestOf_0 12 rfl rfl)
theorem dX1_cheapestOf_13 : decode cX1_cheapestOf 13 = .ok (.iload_n 1, 1) := dk_27 (dk_at dksX1_cheapestOf_0 13 rfl rfl)
theorem dX1_cheapestOf_14 : decode cX1_cheapestOf 14 = .ok (.iload_n 2, 1) := dk_28 (dk_at dksX1_cheapestOf_0 14 rfl rfl)
theorem dX1_cheapestOf_15 : decode cX1_cheapestOf 15 = .ok (.iload 4, 2) := dk_21 4 (dk_at dksX1_cheapestOf_0 15 rfl rfl)
theorem dX1_cheapestOf_17 : decode cX1_cheapestOf 17 = .ok (.aload_n 0, 1) := dk_42 (dk_at dksX1_cheapestOf_0 17 rfl rfl)
theorem dX1_cheapestOf_18 : decode cX1_cheapestOf 18 = .ok (.getfield 43, 3) := dk_180 0 43 (dk_at dksX1_cheapestOf_0 18 rfl rfl)
theorem dX1_cheapestOf_21 : decode cX1_cheapestOf 21 = .ok (.invokevirtual 269, 3) := dk_182 1 13 (dk_at dksX1_cheapestOf_0 21 rfl rfl)
theorem dX1_cheapestOf_24 : decode cX1_cheapestOf 24 = .ok (.aload_n 0, 1) := dk_42 (dk_at dksX1_cheapestOf_1 0 rfl rfl)
theorem dX1_cheapestOf_25 : decode cX1_cheapestOf 25 = .ok (.iload_n 1, 1) := dk_27 (dk_at dksX1_cheapestOf_1 1 rfl rfl)
theorem dX1_cheapestOf_26 : decode cX1_cheapestOf 26 = .ok (.iload_n 2, 1) := dk_28 (dk_at dksX1_cheapestOf_1 2 rfl rfl)
theorem dX1_cheapestOf_27 : decode cX1_cheapestOf 27 = .ok (.iload_n 3, 1) := dk_29 (dk_at dksX1_cheapestOf_1 3 rfl rfl)
theorem dX1_cheapestOf_28 : decode cX1_cheapestOf 28 = .ok (.aload_n 0, 1) := dk_42 (dk_at dksX1_cheapestOf_1 4 rfl rfl)
theorem dX1_cheapestOf_29 : decode cX1_cheapestOf 29 = .ok (.getfield 43, 3) := dk_180 0 43 (dk_at dksX1_cheapestOf_1 5 rfl rfl)
theorem dX1_cheapestOf_32 : decode cX1_cheapestOf 32 = .ok (.invokevirtual 269, 3) := dk_182 1 13 (dk_at dksX1_cheapestOf_1 8 rfl rfl)
theorem dX1_cheapestOf_35 : decode cX1_cheapestOf 35 = .ok (.if_icmp .ge 6, 3) := dk_162 0 6 (dk_at dksX1_cheapestOf_1 11 rfl rfl)
theorem dX1_cheapestOf_38 : decode cX1_cheapestOf 38 = .ok (.iload 4, 2) := dk_21 4 (dk_at dksX1_cheapestOf_1 14 rfl rfl)
theorem dX1_cheapestOf_40 : decode cX1_cheapestOf 40 = .ok (.istore_n 3, 1) := dk_62 (dk_at dksX1_cheapestOf_1 16 rfl rfl)
theorem dX1_cheapestOf_41 : decode cX1_cheapestOf 41 = .ok (.iinc 4 1, 3) := dk_132 4 1 (dk_at dksX1_cheapestOf_1 17 rfl rfl)
theorem dX1_cheapestOf_44 : decode cX1_cheapestOf 44 = .ok (.goto (-39), 3) := dk_167 255 217 (dk_at dksX1_cheapestOf_1 20 rfl rfl)
theorem dX1_cheapestOf_47 : decode cX1_cheapestOf 47 = .ok (.iload_n 3, 1) := dk_29 (dk_at dksX1_cheapestOf_1 23 rfl rfl)
theorem dX1_cheapestOf_48 : decode cX1_cheapestOf 48 = .ok (.ireturn, 1) := dk_172 (dk_at dksX1_cheapestOf_2 0 rfl rfl)
abbrev cX1_cheapest : ByteArray := prog_1_method_39_code
def yX1_cheapest : MethodName := ⟨RX1, "cheapest", "(II)I"⟩
def dkwX1_cheapest_1 : List UInt8 := [27, 28, 182, 1, 22, 42, 180, 0, 43, 182, 1, 13, 167, 0, 8, 42, 4, 182, 0, 107, 172]
abbrev dktX1_cheapest_1 : List UInt8 := dkwX1_cheapest_1 ++ []
def dkwX1_cheapest_0 : List UInt8 := [42, 182, 0, 93, 42, 27, 182, 0, 193, 153, 0, 30, 42, 28, 182, 0, 213, 153, 0, 22, 42, 27, 28, 42]
abbrev dktX1_cheapest_0 : List UInt8 := dkwX1_cheapest_0 ++ dktX1_cheapest_1
theorem dksX1_cheapest_0 : cX1_cheapest.data.toList.drop 0 = dktX1_cheapest_0 := by decide +kernel
theorem dksX1_cheapest_1 : cX1_cheapest.data.toList.drop 24 = dktX1_cheapest_1 := dk_seg dksX1_cheapest_0 24 rfl rfl
theorem dX1_cheapest_0 : decode cX1_cheapest 0 = .ok (.aload_n 0, 1) := dk_42 (dk_at dksX1_cheapest_0 0 rfl rfl)
theorem dX1_cheapest_1 : decode cX1_cheapest 1 = .ok (.invokevirtual 93, 3) := dk_182 0 93 (dk_at dksX1_cheapest_0 1 rfl rfl)
theorem dX1_cheapest_4 : decode cX1_cheapest 4 = .ok (.aload_n 0, 1) := dk_42 (dk_at dksX1_cheapest_0 4 rfl rfl)
theorem dX1_cheapest_5 : decode cX1_cheapest 5 = .ok (.iload_n 1, 1) := dk_27 (dk_at dksX1_cheapest_0 5 rfl rfl)
theorem dX1_cheapest_6 : decode cX1_cheapest 6 = .ok (.invokevirtual 193, 3) := dk_182 0 193 (dk_at dksX1_cheapest_0 6 rfl rfl)
theorem dX1_cheapest_9 : decode cX1_cheapest 9 = .ok (.ifCond .eq 30, 3) := dk_153 0 30 (dk_at dksX1_cheapest_0 9 rfl rfl)
theorem dX1_cheapest_12 : decode cX1_cheapest 12 = .ok (.aload_n 0, 1) := dk_42 (dk_at dksX1_cheapest_0 12 rfl rfl)
theorem dX1_cheapest_13 : decode cX1_cheapest 13 = .ok (.iload_n 2, 1) := dk_28 (dk_at dksX1_cheapest_0 13 rfl rfl)
theorem dX1_cheapest_14 : decode cX1_cheapest 14 = .ok (.invokevirtual 213, 3) := dk_182 0 213 (dk_at dksX1_cheapest_0 14 rfl rfl)
theorem dX1_cheapest_17 : decode cX1_cheapest 17 = .ok (.ifCond .eq 22, 3) := dk_153 0 22 (dk_at dksX1_cheapest_0 17 rfl rfl)
theorem dX1_cheapest_20 : decode cX1_cheapest 20 = .ok (.aload_n 0, 1) := dk_42 (dk_at dksX1_cheapest_0 20 rfl rfl)
theorem dX1_cheapest_21 : decode cX1_cheapest 21 = .ok (.iload_n 1, 1) := dk_27 (dk_at dksX1_cheapest_0 21 rfl rfl)
theorem dX1_cheapest_22 : decode cX1_cheapest 22 = .ok (.iload_n 2, 1) := dk_28 (dk_at dksX1_cheapest_0 22 rfl rfl)
theorem dX1_cheapest_23 : decode cX1_cheapest 23 = .ok (.aload_n 0, 1) := dk_42 (dk_at dksX1_cheapest_0 23 rfl rfl)
theorem dX1_cheapest_24 : decode cX1_cheapest 24 = .ok (.iload_n 1, 1) := dk_27 (dk_at dksX1_cheapest_1 0 rfl rfl)
theorem dX1_cheapest_25 : decode cX1_cheapest 25 = .ok (.iload_n 2, 1) := dk_28 (dk_at dksX1_cheapest_1 1 rfl rfl)
theorem dX1_cheapest_26 : decode cX1_cheapest 26 = .ok (.invokevirtual 278, 3) := dk_182 1 22 (dk_at dksX1_cheapest_1 2 rfl rfl)
theorem dX1_cheapest_29 : decode cX1_cheapest 29 = .ok (.aload_n 0, 1) := dk_42 (dk_at dksX1_cheapest_1 5 rfl rfl)
theorem dX1_cheapest_30 : decode cX1_cheapest 30 = .ok (.getfield 43, 3) := dk_180 0 43 (dk_at dksX1_cheapest_1 6 rfl rfl)
theorem dX1_cheapest_33 : decode cX1_cheapest 33 = .ok (.invokevirtual 269, 3) := dk_182 1 13 (dk_at dksX1_cheapest_1 9 rfl rfl)
theorem dX1_cheapest_36 : decode cX1_cheapest 36 = .ok (.goto 8, 3) := dk_167 0 8 (dk_at dksX1_cheapest_1 12 rfl rfl)
theorem dX1_cheapest_39 : decode cX1_cheapest 39 = .ok (.aload_n 0, 1) := dk_42 (dk_at dksX1_cheapest_1 15 rfl rfl)
theorem dX1_cheapest_40 : decode cX1_cheapest 40 = .ok (.iconst 1, 1) := dk_4 (dk_at dksX1_cheapest_1 16 rfl rfl)
theorem dX1_cheapest_41 : decode cX1_cheapest 41 = .ok (.invokevirtual 107, 3) := dk_182 0 107 (dk_at dksX1_cheapest_1 17 rfl rfl)
theorem dX1_cheapest_44 : decode cX1_cheapest 44 = .ok (.ireturn, 1) := dk_172 (dk_at dksX1_cheapest_1 20 rfl rfl)
abbrev cX1_eats : ByteArray := prog_1_method_41_code
def yX1_eats : MethodName := ⟨RX1, "eats", "(III)I"⟩
def dkwX1_eats_1 : List UInt8 := [21, 4, 182, 0, 107, 167, 0, 10, 42, 180, 0, 73, 182, 1, 35, 172]
abbrev dktX1_eats_1 : List UInt8 := dkwX1_eats_1 ++ []
def dkwX1_eats_0 : List UInt8 := [42, 182, 0, 93, 42, 42, 180, 0, 73, 27, 28, 29, 182, 1, 31, 54, 4, 21, 4, 153, 0, 12, 42]
abbrev dktX1_eats_0 : List UInt8 := dkwX1_eats_0 ++ dktX1_eats_1
theorem dksX1_eats_0 : cX1_eats.data.toList.drop 0 = dktX1_eats_0 := by decide +kernel
theorem dksX1_eats_1 : cX1_eats.data.toList.drop 23 = dktX1_eats_1 := dk_seg dksX1_eats_0 23 rfl rfl
theorem dX1_eats_0 : decode cX1_eats 0 = .ok (.aload_n 0, 1) := dk_42 (dk_at dksX1_eats_0 0 rfl rfl)
theorem dX1_eats_1 : decode cX1_eats 1 = .ok (.invokevirtual 93, 3) := dk_182 0 93 (dk_at dksX1_eats_0 1 rfl rfl)
theorem dX1_eats_4 : decode cX1_eats 4 = .ok (.aload_n 0, 1) := dk_42 (dk_at dksX1_eats_0 4 rfl rfl)
theorem dX1_eats_5 : decode cX1_eats 5 = .ok (.aload_n 0, 1) := dk_42 (dk_at dksX1_eats_0 5 rfl rfl)
theorem dX1_eats_6 : decode cX1_eats 6 = .ok (.getfield 73, 3) := dk_180 0 73 (dk_at dksX1_eats_0 6 rfl rfl)
theorem dX1_eats_9 : decode cX1_eats 9 = .ok (.iload_n 1, 1) := dk_27 (dk_at dksX1_eats_0 9 rfl rfl)
theorem dX1_eats_10 : decode cX1_eats 10 = .ok (.iload_n 2, 1) := dk_28 (dk_at dksX1_eats_0 10 rfl rfl)
theorem dX1_eats_11 : decode cX1_eats 11 = .ok (.iload_n 3, 1) := dk_29 (dk_at dksX1_eats_0 11 rfl rfl)
theorem dX1_eats_12 : decode cX1_eats 12 = .ok (.invokevirtual 287, 3) := dk_182 1 31 (dk_at dksX1_eats_0 12 rfl rfl)
theorem dX1_eats_15 : decode cX1_eats 15 = .ok (.istore 4, 2) := dk_54 4 (dk_at dksX1_eats_0 15 rfl rfl)
theorem dX1_eats_17 : decode cX1_eats 17 = .ok (.iload 4, 2) := dk_21 4 (dk_at dksX1_eats_0 17 rfl rfl)
theorem dX1_eats_19 : decode cX1_eats 19 = .ok (.ifCond .eq 12, 3) := dk_153 0 12 (dk_at dksX1_eats_0 19 rfl rfl)
theorem dX1_eats_22 : decode cX1_eats 22 = .ok (.aload_n 0, 1) := dk_42 (dk_at dksX1_eats_0 22 rfl rfl)
theorem dX1_eats_23 : decode cX1_eats 23 = .ok (.iload 4, 2) := dk_21 4 (dk_at dksX1_eats_1 0 rfl rfl)
theorem dX1_eats_25 : decode cX1_eats 25 = .ok (.invokevirtual 107, 3) := dk_182 0 107 (dk_at dksX1_eats_1 2 rfl rfl)
theorem dX1_eats_28 : decode cX1_eats 28 = .ok (.goto 10, 3) := dk_167 0 10 (dk_at dksX1_eats_1 5 rfl rfl)
theorem dX1_eats_31 : decode cX1_eats 31 = .ok (.aload_n 0, 1) := dk_42 (dk_at dksX1_eats_1 8 rfl rfl)
theorem dX1_eats_32 : decode cX1_eats 32 = .ok (.getfield 73, 3) := dk_180 0 73 (dk_at dksX1_eats_1 9 rfl rfl)
theorem dX1_eats_35 : decode cX1_eats 35 = .ok (.invokevirtual 291, 3) := dk_182 1 35 (dk_at dksX1_eats_1 12 rfl rfl)
theorem dX1_eats_38 : decode cX1_eats 38 = .ok (.ireturn, 1) := dk_172 (dk_at dksX1_eats_1 15 rfl rfl)
abbrev cX1_choiceWhy : ByteArray := prog_1_method_40_code
def yX1_choiceWhy : MethodName := ⟨RX1, "choiceWhy", "(LSaltedGate$Choice;III)I"⟩
def dkwX1_choiceWhy_1 : List UInt8 := [42, 180, 0, 43, 28, 29, 42, 21, 4, 182, 0, 238, 182, 1, 25, 21, 5, 172]
abbrev dktX1_choiceWhy_1 : List UInt8 := dkwX1_choiceWhy_1 ++ []
def dkwX1_choiceWhy_0 : List UInt8 := [42, 28, 29, 21, 4, 182, 1, 10, 54, 5, 21, 5, 154, 0, 27, 43, 42, 180, 0, 118, 42, 180, 0, 33]
abbrev dktX1_choiceWhy_0 : List UInt8 := dkwX1_choiceWhy_0 ++ dktX1_choiceWhy_1
theorem dksX1_choiceWhy_0 : cX1_choiceWhy.data.toList.drop 0 = dktX1_choiceWhy_0 := by decide +kernel
theorem dksX1_choiceWhy_1 : cX1_choiceWhy.data.toList.drop 24 = dktX1_choiceWhy_1 := dk_seg dksX1_choiceWhy_0 24 rfl rfl
theorem dX1_choiceWhy_0 : decode cX1_choiceWhy 0 = .ok (.aload_n 0, 1) := dk_42 (dk_at dksX1_choiceWhy_0 0 rfl rfl)
theorem dX1_choiceWhy_1 : decode cX1_choiceWhy 1 = .ok (.iload_n 2, 1) := dk_28 (dk_at dksX1_choiceWhy_0 1 rfl rfl)
theorem dX1_choiceWhy_2 : decode cX1_choiceWhy 2 = .ok (.iload_n 3, 1) := dk_29 (dk_at dksX1_choiceWhy_0 2 rfl rfl)
theorem dX1_choiceWhy_3 : decode cX1_choiceWhy 3 = .ok (.iload 4, 2) := dk_21 4 (dk_at dksX1_choiceWhy_0 3 rfl rfl)
theorem dX1_choiceWhy_5 : decode cX1_choiceWhy 5 = .ok (.invokevirtual 266, 3) := dk_182 1 10 (dk_at dksX1_choiceWhy_0 5 rfl rfl)
theorem dX1_choiceWhy_8 : decode cX1_choiceWhy 8 = .ok (.istore 5, 2) := dk_54 5 (dk_at dksX1_choiceWhy_0 8 rfl rfl)
theorem dX1_choiceWhy_10 : decode cX1_choiceWhy 10 = .ok (.iload 5, 2) := dk_21 5 (dk_at dksX1_choiceWhy_0 10 rfl rfl)
theorem dX1_choiceWhy_12 : decode cX1_choiceWhy 12 = .ok (.ifCond .ne 27, 3) := dk_154 0 27 (dk_at dksX1_choiceWhy_0 12 rfl rfl)
theorem dX1_choiceWhy_15 : decode cX1_choiceWhy 15 = .ok (.aload_n 1, 1) := dk_43 (dk_at dksX1_choiceWhy_0 15 rfl rfl)
theorem dX1_choiceWhy_16 : decode cX1_choiceWhy 16 = .ok (.aload_n 0, 1) := dk_42 (dk_at dksX1_choiceWhy_0 16 rfl rfl)
theorem dX1_choiceWhy_17 : decode cX1_choiceWhy 17 = .ok (.getfield 118, 3) := dk_180 0 118 (dk_at dksX1_choiceWhy_0 17 rfl rfl)
theorem dX1_choiceWhy_20 : decode cX1_choiceWhy 20 = .ok (.aload_n 0, 1) := dk_42 (dk_at dksX1_choiceWhy_0 20 rfl rfl)
theorem dX1_choiceWhy_21 : decode cX1_choiceWhy 21 = .ok (.getfield 33, 3) := dk_180 0 33 (dk_at dksX1_choiceWhy_0 21 rfl rfl)
theorem dX1_choiceWhy_24 : decode cX1_choiceWhy 24 = .ok (.aload_n 0, 1) := dk_42 (dk_at dksX1_choiceWhy_1 0 rfl rfl)
theorem dX1_choiceWhy_25 : decode cX1_choiceWhy 25 = .ok (.getfield 43, 3) := dk_180 0 43 (dk_at dksX1_choiceWhy_1 1 rfl rfl)
theorem dX1_choiceWhy_28 : decode cX1_choiceWhy 28 = .ok (.iload_n 2, 1) := dk_28 (dk_at dksX1_choiceWhy_1 4 rfl rfl)
theorem dX1_choiceWhy_29 : decode cX1_choiceWhy 29 = .ok (.iload_n 3, 1) := dk_29 (dk_at dksX1_choiceWhy_1 5 rfl rfl)
theorem dX1_choiceWhy_30 : decode cX1_choiceWhy 30 = .ok (.aload_n 0, 1) := dk_42 (dk_at dksX1_choiceWhy_1 6 rfl rfl)
theorem dX1_choiceWhy_31 : decode cX1_choiceWhy 31 = .ok (.iload 4, 2) := dk_21 4 (dk_at dksX1_choiceWhy_1 7 rfl rfl)
theorem dX1_choiceWhy_33 : decode cX1_choiceWhy 33 = .ok (.invokevirtual 238, 3) := dk_182 0 238 (dk_at dksX1_choiceWhy_1 9 rfl rfl)
theorem dX1_choiceWhy_36 : decode cX1_choiceWhy 36 = .ok (.invokevirtual 281, 3) := dk_182 1 25 (dk_at dksX1_choiceWhy_1 12 rfl rfl)
theorem dX1_choiceWhy_39 : decode cX1_choiceWhy 39 = .ok (.iload 5, 2) := dk_21 5 (dk_at dksX1_choiceWhy_1 15 rfl rfl)
theorem dX1_choiceWhy_41 : decode cX1_choiceWhy 41 = .ok (.ireturn, 1) := dk_172 (dk_at dksX1_choiceWhy_1 17 rfl rfl)
abbrev cX1_ones : ByteArray := prog_1_method_3_code
def yX1_ones : MethodName := ⟨RX1, "ones", "(I)I"⟩
def dkwX1_ones_0 : List UInt8 := [3, 60, 26, 61, 28, 153, 0, 15, 132, 1, 1, 28, 28, 4, 100, 126, 61, 167, 255, 243, 27, 172]
abbrev dktX1_ones_0 : List UInt8 := dkwX1_ones_0 ++ []
theorem dksX1_ones_0 : cX1_ones.data.toList.drop 0 = dktX1_ones_0 := by decide +kernel
theorem dX1_ones_0 : decode cX1_ones 0 = .ok (.iconst 0, 1) := dk_3 (dk_at dksX1_ones_0 0 rfl rfl)
theorem dX1_ones_1 : decode cX1_ones 1 = .ok (.istore_n 1, 1) := dk_60 (dk_at dksX1_ones_0 1 rfl rfl)
theorem dX1_ones_2 : decode cX1_ones 2 = .ok (.iload_n 0, 1) := dk_26 (dk_at dksX1_ones_0 2 rfl rfl)
theorem dX1_ones_3 : decode cX1_ones 3 = .ok (.istore_n 2, 1) := dk_61 (dk_at dksX1_ones_0 3 rfl rfl)
theorem dX1_ones_4 : decode cX1_ones 4 = .ok (.iload_n 2, 1) := dk_28 (dk_at dksX1_ones_0 4 rfl rfl)
theorem dX1_ones_5 : decode cX1_ones 5 = .ok (.ifCond .eq 15, 3) := dk_153 0 15 (dk_at dksX1_ones_0 5 rfl rfl)
theorem dX1_ones_8 : decode cX1_ones 8 = .ok (.iinc 1 1, 3) := dk_132 1 1 (dk_at dksX1_ones_0 8 rfl rfl)
theorem dX1_ones_11 : decode cX1_ones 11 = .ok (.iload_n 2, 1) := dk_28 (dk_at dksX1_ones_0 11 rfl rfl)
theorem dX1_ones_12 : decode cX1_ones 12 = .ok (.iload_n 2, 1) := dk_28 (dk_at dksX1_ones_0 12 rfl rfl)
theorem dX1_ones_13 : decode cX1_ones 13 = .ok (.iconst 1, 1) := dk_4 (dk_at dksX1_ones_0 13 rfl rfl)
theorem dX1_ones_14 : decode cX1_ones 14 = .ok (.isub, 1) := dk_100 (dk_at dksX1_ones_0 14 rfl rfl)
theorem dX1_ones_15 : decode cX1_ones 15 = .ok (.iand, 1) := dk_126 (dk_at dksX1_ones_0 15 rfl rfl)
theorem dX1_ones_16 : decode cX1_ones 16 = .ok (.istore_n 2, 1) := dk_61 (dk_at dksX1_ones_0 16 rfl rfl)
theorem dX1_ones_17 : decode cX1_ones 17 = .ok (.goto (-13), 3) := dk_167 255 243 (dk_at dksX1_ones_0 17 rfl rfl)
theorem dX1_ones_20 : decode cX1_ones 20 = .ok (.iload_n 1, 1) := dk_27 (dk_at dksX1_ones_0 20 rfl rfl)
theorem dX1_ones_21 : decode cX1_ones 21 = .ok (.ireturn, 1) := dk_172 (dk_at dksX1_ones_0 21 rfl rfl)
abbrev cX1_eatsAsked : ByteArray := prog_1_method_42_code
def yX1_eatsAsked : MethodName := ⟨RX1, "eatsAsked", "(III)I"⟩
def dkwX1_eatsAsked_1 : List UInt8 := [21, 4, 182, 0, 107, 167, 0, 10, 42, 180, 0, 73, 182, 1, 38, 172]
abbrev dktX1_eatsAsked_1 : List UInt8 := dkwX1_eatsAsked_1 ++ []
def dkwX1_eatsAsked_0 : List UInt8 := [42, 182, 0, 93, 42, 42, 180, 0, 73, 27, 28, 29, 182, 1, 31, 54, 4, 21, 4, 153, 0, 12, 42]
abbrev dktX1_eatsAsked_0 : List UInt8 := dkwX1_eatsAsked_0 ++ dktX1_eatsAsked_1
theorem dksX1_eatsAsked_0 : cX1_eatsAsked.data.toList.drop 0 = dktX1_eatsAsked_0 := by decide +kernel
theorem dksX1_eatsAsked_1 : cX1_eatsAsked.data.toList.drop 23 = dktX1_eatsAsked_1 := dk_seg dksX1_eatsAsked_0 23 rfl rfl
theorem dX1_eatsAsked_0 : decode cX1_eatsAsked 0 = .ok (.aload_n 0, 1) := dk_42 (dk_at dksX1_eatsAsked_0 0 rfl rfl)
theorem dX1_eatsAsked_1 : decode cX1_eatsAsked 1 = .ok (.invokevirtual 93, 3) := dk_182 0 93 (dk_at dksX1_eatsAsked_0 1 rfl rfl)
theorem dX1_eatsAsked_4 : decode cX1_eatsAsked 4 = .ok (.aload_n 0, 1) := dk_42 (dk_at dksX1_eatsAsked_0 4 rfl rfl)
theorem dX1_eatsAsked_5 : decode cX1_eatsAsked 5 = .ok (.aload_n 0, 1) := dk_42 (dk_at dksX1_eatsAsked_0 5 rfl rfl)
theorem dX1_eatsAsked_6 : decode cX1_eatsAsked 6 = .ok (.getfield 73, 3) := dk_180 0 73 (dk_at dksX1_eatsAsked_0 6 rfl rfl)
theorem dX1_eatsAsked_9 : decode cX1_eatsAsked 9 = .ok (.iload_n 1, 1) := dk_27 (dk_at dksX1_eatsAsked_0 9 rfl rfl)
theorem dX1_eatsAsked_10 : decode cX1_eatsAsked 10 = .ok (.iload_n 2, 1) := dk_28 (dk_at dksX1_eatsAsked_0 10 rfl rfl)
theorem dX1_eatsAsked_11 : decode cX1_eatsAsked 11 = .ok (.iload_n 3, 1) := dk_29 (dk_at dksX1_eatsAsked_0 11 rfl rfl)
theorem dX1_eatsAsked_12 : decode cX1_eatsAsked 12 = .ok (.invokevirtual 287, 3) := dk_182 1 31 (dk_at dksX1_eatsAsked_0 12 rfl rfl)
theorem dX1_eatsAsked_15 : decode cX1_eatsAsked 15 = .ok (.istore 4, 2) := dk_54 4 (dk_at dksX1_eatsAsked_0 15 rfl rfl)
theorem dX1_eatsAsked_17 : decode cX1_eatsAsked 17 = .ok (.iload 4, 2) := dk_21 4 (dk_at dksX1_eatsAsked_0 17 rfl rfl)
theorem dX1_eatsAsked_19 : decode cX1_eatsAsked 19 = .ok (.ifCond .eq 12, 3) := dk_153 0 12 (dk_at dksX1_eatsAsked_0 19 rfl rfl)
theorem dX1_eatsAsked_22 : decode cX1_eatsAsked 22 = .ok (.aload_n 0, 1) := dk_42 (dk_at dksX1_eatsAsked_0 22 rfl rfl)
theorem dX1_eatsAsked_23 : decode cX1_eatsAsked 23 = .ok (.iload 4, 2) := dk_21 4 (dk_at dksX1_eatsAsked_1 0 rfl rfl)
theorem dX1_eatsAsked_25 : decode cX1_eatsAsked 25 = .ok (.invokevirtual 107, 3) := dk_182 0 107 (dk_at dksX1_eatsAsked_1 2 rfl rfl)
theorem dX1_eatsAsked_28 : decode cX1_eatsAsked 28 = .ok (.goto 10, 3) := dk_167 0 10 (dk_at dksX1_eatsAsked_1 5 rfl rfl)
theorem dX1_eatsAsked_31 : decode cX1_eatsAsked 31 = .ok (.aload_n 0, 1) := dk_42 (dk_at dksX1_eatsAsked_1 8 rfl rfl)
theorem dX1_eatsAsked_32 : decode cX1_eatsAsked 32 = .ok (.getfield 73, 3) := dk_180 0 73 (dk_at dksX1_eatsAsked_1 9 rfl rfl)
theorem dX1_eatsAsked_35 : decode cX1_eatsAsked 35 = .ok (.invokevirtual 294, 3) := dk_182 1 38 (dk_at dksX1_eatsAsked_1 12 rfl rfl)
theorem dX1_eatsAsked_38 : decode cX1_eatsAsked 38 = .ok (.ireturn, 1) := dk_172 (dk_at dksX1_eatsAsked_1 15 rfl rfl)
abbrev cX1_hideBest : ByteArray := prog_1_method_43_code
def yX1_hideBest : MethodName := ⟨RX1, "hideBest", "(III)I"⟩
def dkwX1_hideBest_1 : List UInt8 := [21, 4, 182, 0, 107, 167, 0, 10, 42, 180, 0, 80, 182, 1, 35, 172]
abbrev dktX1_hideBest_1 : List UInt8 := dkwX1_hideBest_1 ++ []
def dkwX1_hideBest_0 : List UInt8 := [42, 182, 0, 93, 42, 42, 180, 0, 80, 27, 28, 29, 182, 1, 31, 54, 4, 21, 4, 153, 0, 12, 42]
abbrev dktX1_hideBest_0 : List UInt8 := dkwX1_hideBest_0 ++ dktX1_hideBest_1
theorem dksX1_hideBest_0 : cX1_hideBest.data.toList.drop 0 = dktX1_hideBest_0 := by decide +kernel
theorem dksX1_hideBest_1 : cX1_hideBest.data.toList.drop 23 = dktX1_hideBest_1 := dk_seg dksX1_hideBest_0 23 rfl rfl
theorem dX1_hideBest_0 : decode cX1_hideBest 0 = .ok (.aload_n 0, 1) := dk_42 (dk_at dksX1_hideBest_0 0 rfl rfl)
theorem dX1_hideBest_1 : decode cX1_hideBest 1 = .ok (.invokevirtual 93, 3) := dk_182 0 93 (dk_at dksX1_hideBest_0 1 rfl rfl)
theorem dX1_hideBest_4 : decode cX1_hideBest 4 = .ok (.aload_n 0, 1) := dk_42 (dk_at dksX1_hideBest_0 4 rfl rfl)
theorem dX1_hideBest_5 : decode cX1_hideBest 5 = .ok (.aload_n 0, 1) := dk_42 (dk_at dksX1_hideBest_0 5 rfl rfl)
theorem dX1_hideBest_6 : decode cX1_hideBest 6 = .ok (.getfield 80, 3) := dk_180 0 80 (dk_at dksX1_hideBest_0 6 rfl rfl)
theorem dX1_hideBest_9 : decode cX1_hideBest 9 = .ok (.iload_n 1, 1) := dk_27 (dk_at dksX1_hideBest_0 9 rfl rfl)
theorem dX1_hideBest_10 : decode cX1_hideBest 10 = .ok (.iload_n 2, 1) := dk_28 (dk_at dksX1_hideBest_0 10 rfl rfl)
theorem dX1_hideBest_11 : decode cX1_hideBest 11 = .ok (.iload_n 3, 1) := dk_29 (dk_at dksX1_hideBest_0 11 rfl rfl)
theorem dX1_hideBest_12 : decode cX1_hideBest 12 = .ok (.invokevirtual 287, 3) := dk_182 1 31 (dk_at dksX1_hideBest_0 12 rfl rfl)
theorem dX1_hideBest_15 : decode cX1_hideBest 15 = .ok (.istore 4, 2) := dk_54 4 (dk_at dksX1_hideBest_0 15 rfl rfl)
theorem dX1_hideBest_17 : decode cX1_hideBest 17 = .ok (.iload 4, 2) := dk_21 4 (dk_at dksX1_hideBest_0 17 rfl rfl)
theorem dX1_hideBest_19 : decode cX1_hideBest 19 = .ok (.ifCond .eq 12, 3) := dk_153 0 12 (dk_at dksX1_hideBest_0 19 rfl rfl)
theorem dX1_hideBest_22 : decode cX1_hideBest 22 = .ok (.aload_n 0, 1) := dk_42 (dk_at dksX1_hideBest_0 22 rfl rfl)
theorem dX1_hideBest_23 : decode cX1_hideBest 23 = .ok (.iload 4, 2) := dk_21 4 (dk_at dksX1_hideBest_1 0 rfl rfl)
theorem dX1_hideBest_25 : decode cX1_hideBest 25 = .ok (.invokevirtual 107, 3) := dk_182 0 107 (dk_at dksX1_hideBest_1 2 rfl rfl)
theorem dX1_hideBest_28 : decode cX1_hideBest 28 = .ok (.goto 10, 3) := dk_167 0 10 (dk_at dksX1_hideBest_1 5 rfl rfl)
theorem dX1_hideBest_31 : decode cX1_hideBest 31 = .ok (.aload_n 0, 1) := dk_42 (dk_at dksX1_hideBest_1 8 rfl rfl)
theorem dX1_hideBest_32 : decode cX1_hideBest 32 = .ok (.getfield 80, 3) := dk_180 0 80 (dk_at dksX1_hideBest_1 9 rfl rfl)
theorem dX1_hideBest_35 : decode cX1_hideBest 35 = .ok (.invokevirtual 291, 3) := dk_182 1 35 (dk_at dksX1_hideBest_1 12 rfl rfl)
theorem dX1_hideBest_38 : decode cX1_hideBest 38 = .ok (.ireturn, 1) := dk_172 (dk_at dksX1_hideBest_1 15 rfl rfl)
abbrev cX1_hideAsked : ByteArray := prog_1_method_44_code
def yX1_hideAsked : MethodName := ⟨RX1, "hideAsked", "(III)I"⟩
def dkwX1_hideAsked_1 : List UInt8 := [21, 4, 182, 0, 107, 167, 0, 10, 42, 180, 0, 80, 182, 1, 38, 172]
abbrev dktX1_hideAsked_1 : List UInt8 := dkwX1_hideAsked_1 ++ []
def dkwX1_hideAsked_0 : List UInt8 := [42, 182, 0, 93, 42, 42, 180, 0, 80, 27, 28, 29, 182, 1, 31, 54, 4, 21, 4, 153, 0, 12, 42]
abbrev dktX1_hideAsked_0 : List UInt8 := dkwX1_hideAsked_0 ++ dktX1_hideAsked_1
theorem dksX1_hideAsked_0 : cX1_hideAsked.data.toList.drop 0 = dktX1_hideAsked_0 := by decide +kernel
theorem dksX1_hideAsked_1 : cX1_hideAsked.data.toList.drop 23 = dktX1_hideAsked_1 := dk_seg dksX1_hideAsked_0 23 rfl rfl
theorem dX1_hideAsked_0 : decode cX1_hideAsked 0 = .ok (.aload_n 0, 1) := dk_42 (dk_at dksX1_hideAsked_0 0 rfl rfl)
theorem dX1_hideAsked_1 : decode cX1_hideAsked 1 = .ok (.invokevirtual 93, 3) := dk_182 0 93 (dk_at dksX1_hideAsked_0 1 rfl rfl)
theorem dX1_hideAsked_4 : decode cX1_hideAsked 4 = .ok (.aload_n 0, 1) := dk_42 (dk_at dksX1_hideAsked_0 4 rfl rfl)
theorem dX1_hideAsked_5 : decode cX1_hideAsked 5 = .ok (.aload_n 0, 1) := dk_42 (dk_at dksX1_hideAsked_0 5 rfl rfl)
theorem dX1_hideAsked_6 : decode cX1_hideAsked 6 = .ok (.getfield 80, 3) := dk_180 0 80 (dk_at dksX1_hideAsked_0 6 rfl rfl)
theorem dX1_hideAsked_9 : decode cX1_hideAsked 9 = .ok (.iload_n 1, 1) := dk_27 (dk_at dksX1_hideAsked_0 9 rfl rfl)
theorem dX1_hideAsked_10 : decode cX1_hideAsked 10 = .ok (.iload_n 2, 1) := dk_28 (dk_at dksX1_hideAsked_0 10 rfl rfl)
theorem dX1_hideAsked_11 : decode cX1_hideAsked 11 = .ok (.iload_n 3, 1) := dk_29 (dk_at dksX1_hideAsked_0 11 rfl rfl)
theorem dX1_hideAsked_12 : decode cX1_hideAsked 12 = .ok (.invokevirtual 287, 3) := dk_182 1 31 (dk_at dksX1_hideAsked_0 12 rfl rfl)
theorem dX1_hideAsked_15 : decode cX1_hideAsked 15 = .ok (.istore 4, 2) := dk_54 4 (dk_at dksX1_hideAsked_0 15 rfl rfl)
theorem dX1_hideAsked_17 : decode cX1_hideAsked 17 = .ok (.iload 4, 2) := dk_21 4 (dk_at dksX1_hideAsked_0 17 rfl rfl)
theorem dX1_hideAsked_19 : decode cX1_hideAsked 19 = .ok (.ifCond .eq 12, 3) := dk_153 0 12 (dk_at dksX1_hideAsked_0 19 rfl rfl)
theorem dX1_hideAsked_22 : decode cX1_hideAsked 22 = .ok (.aload_n 0, 1) := dk_42 (dk_at dksX1_hideAsked_0 22 rfl rfl)
theorem dX1_hideAsked_23 : decode cX1_hideAsked 23 = .ok (.iload 4, 2) := dk_21 4 (dk_at dksX1_hideAsked_1 0 rfl rfl)
theorem dX1_hideAsked_25 : decode cX1_hideAsked 25 = .ok (.invokevirtual 107, 3) := dk_182 0 107 (dk_at dksX1_hideAsked_1 2 rfl rfl)
theorem dX1_hideAsked_28 : decode cX1_hideAsked 28 = .ok (.goto 10, 3) := dk_167 0 10 (dk_at dksX1_hideAsked_1 5 rfl rfl)
theorem dX1_hideAsked_31 : decode cX1_hideAsked 31 = .ok (.aload_n 0, 1) := dk_42 (dk_at dksX1_hideAsked_1 8 rfl rfl)
theorem dX1_hideAsked_32 : decode cX1_hideAsked 32 = .ok (.getfield 80, 3) := dk_180 0 80 (dk_at dksX1_hideAsked_1 9 rfl rfl)
theorem dX1_hideAsked_35 : decode cX1_hideAsked 35 = .ok (.invokevirtual 294, 3) := dk_182 1 38 (dk_at dksX1_hideAsked_1 12 rfl rfl)
theorem dX1_hideAsked_38 : decode cX1_hideAsked 38 = .ok (.ireturn, 1) := dk_172 (dk_at dksX1_hideAsked_1 15 rfl rfl)
abbrev cX1_cover : ByteArray := prog_1_method_45_code
def yX1_cover : MethodName := ⟨RX1, "cover", "(III)I"⟩
def dkwX1_cover_6 : List UInt8 := [16, 254, 172]
abbrev dktX1_cover_6 : List UInt8 := dkwX1_cover_6 ++ []
def dkwX1_cover_5 : List UInt8 := [180, 0, 220, 161, 0, 9, 132, 7, 1, 167, 255, 231, 21, 7, 16, 30, 163, 0, 8, 21, 7, 167, 0, 5]
abbrev dktX1_cover_5 : List UInt8 := dkwX1_cover_5 ++ dktX1_cover_6
def dkwX1_cover_4 : List UInt8 := [167, 255, 210, 3, 54, 7, 21, 5, 5, 21, 7, 104, 100, 42, 180, 0, 118, 180, 0, 216, 28, 50]
abbrev dktX1_cover_4 : List UInt8 := dkwX1_cover_4 ++ dktX1_cover_5
def dkwX1_cover_3 : List UInt8 := [21, 5, 42, 180, 0, 33, 21, 7, 42, 29, 182, 0, 238, 182, 0, 251, 184, 1, 41, 54, 5, 132, 7, 1]
abbrev dktX1_cover_3 : List UInt8 := dkwX1_cover_3 ++ dktX1_cover_4
def dkwX1_cover_2 : List UInt8 := [54, 7, 21, 7, 42, 180, 0, 118, 180, 0, 142, 162, 0, 40, 21, 6, 21, 7, 184, 0, 189, 153, 0, 24]
abbrev dktX1_cover_2 : List UInt8 := dkwX1_cover_2 ++ dktX1_cover_3
def dkwX1_cover_1 : List UInt8 := [172, 3, 54, 5, 42, 180, 0, 33, 27, 182, 0, 211, 42, 180, 0, 33, 180, 0, 186, 126, 54, 6, 3]
abbrev dktX1_cover_1 : List UInt8 := dkwX1_cover_1 ++ dktX1_cover_2
def dkwX1_cover_0 : List UInt8 := [42, 182, 0, 93, 42, 27, 28, 29, 182, 1, 10, 54, 4, 21, 4, 153, 0, 10, 42, 21, 4, 182, 0, 107]
abbrev dktX1_cover_0 : List UInt8 := dkwX1_cover_0 ++ dktX1_cover_1
theorem dksX1_cover_0 : cX1_cover.data.toList.drop 0 = dktX1_cover_0 := by decide +kernel
theorem dksX1_cover_1 : cX1_cover.data.toList.drop 24 = dktX1_cover_1 := dk_seg dksX1_cover_0 24 rfl rfl
theorem dksX1_cover_2 : cX1_cover.data.toList.drop 47 = dktX1_cover_2 := dk_seg dksX1_cover_1 23 rfl rfl
theorem dksX1_cover_3 : cX1_cover.data.toList.drop 71 = dktX1_cover_3 := dk_seg dksX1_cover_2 24 rfl rfl
theorem dksX1_cover_4 : cX1_cover.data.toList.drop 95 = dktX1_cover_4 := dk_seg dksX1_cover_3 24 rfl rfl
theorem dksX1_cover_5 : cX1_cover.data.toList.drop 117 = dktX1_cover_5 := dk_seg dksX1_cover_4 22 rfl rfl
theorem dksX1_cover_6 : cX1_cover.data.toList.drop 141 = dktX1_cover_6 := dk_seg dksX1_cover_5 24 rfl rfl
theorem dX1_cover_0 : decode cX1_cover 0 = .ok (.aload_n 0, 1) := dk_42 (dk_at dksX1_cover_0 0 rfl rfl)
theorem dX1_cover_1 : decode cX1_cover 1 = .ok (.invokevirtual 93, 3) := dk_182 0 93 (dk_at dksX1_cover_0 1 rfl rfl)
theorem dX1_cover_4 : decode cX1_cover 4 = .ok (.aload_n 0, 1) := dk_42 (dk_at dksX1_cover_0 4 rfl rfl)
theorem dX1_cover_5 : decode cX1_cover 5 = .ok (.iload_n 1, 1) := dk_27 (dk_at dksX1_cover_0 5 rfl rfl)
theorem dX1_cover_6 : decode cX1_cover 6 = .ok (.iload_n 2, 1) := dk_28 (dk_at dksX1_cover_0 6 rfl rfl)
theorem dX1_cover_7 : decode cX1_cover 7 = .ok (.iload_n 3, 1) := dk_29 (dk_at dksX1_cover_0 7 rfl rfl)
theorem dX1_cover_8 : decode cX1_cover 8 = .ok (.invokevirtual 266, 3) := dk_182 1 10 (dk_at dksX1_cover_0 8 rfl rfl)
theorem dX1_cover_11 : decode cX1_cover 11 = .ok (.istore 4, 2) := dk_54 4 (dk_at dksX1_cover_0 11 rfl rfl)
theorem dX1_cover_13 : decode cX1_cover 13 = .ok (.iload 4, 2) := dk_21 4 (dk_at dksX1_cover_0 13 rfl rfl)
theorem dX1_cover_15 : decode cX1_cover 15 = .ok (.ifCond .eq 10, 3) := dk_153 0 10 (dk_at dksX1_cover_0 15 rfl rfl)
theorem dX1_cover_18 : decode cX1_cover 18 = .ok (.aload_n 0, 1) := dk_42 (dk_at dksX1_cover_0 18 rfl rfl)
theorem dX1_cover_19 : decode cX1_cover 19 = .ok (.iload 4, 2) := dk_21 4 (dk_at dksX1_cover_0 19 rfl rfl)
theorem dX1_cover_21 : decode cX1_cover 21 = .ok (.invokevirtual 107, 3) := dk_182 0 107 (dk_at dksX1_cover_0 21 rfl rfl)
theorem dX1_cover_24 : decode cX1_cover 24 = .ok (.ireturn, 1) := dk_172 (dk_at dksX1_cover_1 0 rfl rfl)
theorem dX1_cover_25 : decode cX1_cover 25 = .ok (.iconst 0, 1) := dk_3 (dk_at dksX1_cover_1 1 rfl rfl)
theorem dX1_cover_26 : decode cX1_cover 26 = .ok (.istore 5, 2) := dk_54 5 (dk_at dksX1_cover_1 2 rfl rfl)
theorem dX1_cover_28 : decode cX1_cover 28 = .ok (.aload_n 0, 1) := dk_42 (dk_at dksX1_cover_1 4 rfl rfl)
theorem dX1_cover_29 : decode cX1_cover 29 = .ok (.getfield 33, 3) := dk_180 0 33 (dk_at dksX1_cover_1 5 rfl rfl)
theorem dX1_cover_32 : decode cX1_cover 32 = .ok (.iload_n 1, 1) := dk_27 (dk_at dksX1_cover_1 8 rfl rfl)
theorem dX1_cover_33 : decode cX1_cover 33 = .ok (.invokevirtual 211, 3) := dk_182 0 211 (dk_at dksX1_cover_1 9 rfl rfl)
theorem dX1_cover_36 : decode cX1_cover 36 = .ok (.aload_n 0, 1) := dk_42 (dk_at dksX1_cover_1 12 rfl rfl)
theorem dX1_cover_37 : decode cX1_cover 37 = .ok (.getfield 33, 3) := dk_180 0 33 (dk_at dksX1_cover_1 13 rfl rfl)
theorem dX1_cover_40 : decode cX1_cover 40 = .ok (.getfield 186, 3) := dk_180 0 186 (dk_at dksX1_cover_1 16 rfl rfl)
theorem dX1_cover_43 : decode cX1_cover 43 = .ok (.iand, 1) := dk_126 (dk_at dksX1_cover_1 19 rfl rfl)
theorem dX1_cover_44 : decode cX1_cover 44 = .ok (.istore 6, 2) := dk_54 6 (dk_at dksX1_cover_1 20 rfl rfl)
theorem dX1_cover_46 : decode cX1_cover 46 = .ok (.iconst 0, 1) := dk_3 (dk_at dksX1_cover_1 22 rfl rfl)
theorem dX1_cover_47 : decode cX1_cover 47 = .ok (.istore 7, 2) := dk_54 7 (dk_at dksX1_cover_2 0 rfl rfl)
theorem dX1_cover_49 : decode cX1_cover 49 = .ok (.iload 7, 2) := dk_21 7 (dk_at dksX1_cover_2 2 rfl rfl)
theorem dX1_cover_51 : decode cX1_cover 51 = .ok (.aload_n 0, 1) := dk_42 (dk_at dksX1_cover_2 4 rfl rfl)
theorem dX1_cover_52 : decode cX1_cover 52 = .ok (.getfield 118, 3) := dk_180 0 118 (dk_at dksX1_cover_2 5 rfl rfl)
theorem dX1_cover_55 : decode cX1_cover 55 = .ok (.getfield 142, 3) := dk_180 0 142 (dk_at dksX1_cover_2 8 rfl rfl)
theorem dX1_cover_58 : decode cX1_cover 58 = .ok (.if_icmp .ge 40, 3) := dk_162 0 40 (dk_at dksX1_cover_2 11 rfl rfl)
theorem dX1_cover_61 : decode cX1_cover 61 = .ok (.iload 6, 2) := dk_21 6 (dk_at dksX1_cover_2 14 rfl rfl)
theorem dX1_cover_63 : decode cX1_cover 63 = .ok (.iload 7, 2) := dk_21 7 (dk_at dksX1_cover_2 16 rfl rfl)
theorem dX1_cover_65 : decode cX1_cover 65 = .ok (.invokestatic 189, 3) := dk_184 0 189 (dk_at dksX1_cover_2 18 rfl rfl)
theorem dX1_cover_68 : decode cX1_cover 68 = .ok (.ifCond .eq 24, 3) := dk_153 0 24 (dk_at dksX1_cover_2 21 rfl rfl)
theorem dX1_cover_71 : decode cX1_cover 71 = .ok (.iload 5, 2) := dk_21 5 (dk_at dksX1_cover_3 0 rfl rfl)
theorem dX1_cover_73 : decode cX1_cover 73 = .ok (.aload_n 0, 1) := dk_42 (dk_at dksX1_cover_3 2 rfl rfl)
theorem dX1_cover_74 : decode cX1_cover 74 = .ok (.getfield 33, 3) := dk_180 0 33 (dk_at dksX1_cover_3 3 rfl rfl)
theorem dX1_cover_77 : decode cX1_cover 77 = .ok (.iload 7, 2) := dk_21 7 (dk_at dksX1_cover_3 6 rfl rfl)
theorem dX1_cover_79 : decode cX1_cover 79 = .ok (.aload_n 0, 1) := dk_42 (dk_at dksX1_cover_3 8 rfl rfl)
theorem dX1_cover_80 : decode cX1_cover 80 = .ok (.iload_n 3, 1) := dk_29 (dk_at dksX1_cover_3 9 rfl rfl)
theorem dX1_cover_81 : decode cX1_cover 81 = .ok (.invokevirtual 238, 3) := dk_182 0 238 (dk_at dksX1_cover_3 10 rfl rfl)
theorem dX1_cover_84 : decode cX1_cover 84 = .ok (.invokevirtual 251, 3) := dk_182 0 251 (dk_at dksX1_cover_3 13 rfl rfl)
theorem dX1_cover_87 : decode cX1_cover 87 = .ok (.invokestatic 297, 3) := dk_184 1 41 (dk_at dksX1_cover_3 16 rfl rfl)
theorem dX1_cover_90 : decode cX1_cover 90 = .ok (.istore 5, 2) := dk_54 5 (dk_at dksX1_cover_3 19 rfl rfl)
theorem dX1_cover_92 : decode cX1_cover 92 = .ok (.iinc 7 1, 3) := dk_132 7 1 (dk_at dksX1_cover_3 21 rfl rfl)
theorem dX1_cover_95 : decode cX1_cover 95 = .ok (.goto (-46), 3) := dk_167 255 210 (dk_at dksX1_cover_4 0 rfl rfl)
theorem dX1_cover_98 : decode cX1_cover 98 = .ok (.iconst 0, 1) := dk_3 (dk_at dksX1_cover_4 3 rfl rfl)
theorem dX1_cover_99 : decode cX1_cover 99 = .ok (.istore 7, 2) := dk_54 7 (dk_at dksX1_cover_4 4 rfl rfl)
theorem dX1_cover_101 : decode cX1_cover 101 = .ok (.iload 5, 2) := dk_21 5 (dk_at dksX1_cover_4 6 rfl rfl)
theorem dX1_cover_103 : decode cX1_cover 103 = .ok (.iconst 2, 1) := dk_5 (dk_at dksX1_cover_4 8 rfl rfl)
theorem dX1_cover_104 : decode cX1_cover 104 = .ok (.iload 7, 2) := dk_21 7 (dk_at dksX1_cover_4 9 rfl rfl)
theorem dX1_cover_106 : decode cX1_cover 106 = .ok (.imul, 1) := dk_104 (dk_at dksX1_cover_4 11 rfl rfl)
theorem dX1_cover_107 : decode cX1_cover 107 = .ok (.isub, 1) := dk_100 (dk_at dksX1_cover_4 12 rfl rfl)
theorem dX1_cover_108 : decode cX1_cover 108 = .ok (.aload_n 0, 1) := dk_42 (dk_at dksX1_cover_4 13 rfl rfl)
theorem dX1_cover_109 : decode cX1_cover 109 = .ok (.getfield 118, 3) := dk_180 0 118 (dk_at dksX1_cover_4 14 rfl rfl)
theorem dX1_cover_112 : decode cX1_cover 112 = .ok (.getfield 216, 3) := dk_180 0 216 (dk_at dksX1_cover_4 17 rfl rfl)
theorem dX1_cover_115 : decode cX1_cover 115 = .ok (.iload_n 2, 1) := dk_28 (dk_at dksX1_cover_4 20 rfl rfl)
theorem dX1_cover_116 : decode cX1_cover 116 = .ok (.aaload, 1) := dk_50 (dk_at dksX1_cover_4 21 rfl rfl)
theorem dX1_cover_117 : decode cX1_cover 117 = .ok (.getfield 220, 3) := dk_180 0 220 (dk_at dksX1_cover_5 0 rfl rfl)
theorem dX1_cover_120 : decode cX1_cover 120 = .ok (.if_icmp .lt 9, 3) := dk_161 0 9 (dk_at dksX1_cover_5 3 rfl rfl)
theorem dX1_cover_123 : decode cX1_cover 123 = .ok (.iinc 7 1, 3) := dk_132 7 1 (dk_at dksX1_cover_5 6 rfl rfl)
theorem dX1_cover_126 : decode cX1_cover 126 = .ok (.goto (-25), 3) := dk_167 255 231 (dk_at dksX1_cover_5 9 rfl rfl)
theorem dX1_cover_129 : decode cX1_cover 129 = .ok (.iload 7, 2) := dk_21 7 (dk_at dksX1_cover_5 12 rfl rfl)
theorem dX1_cover_131 : decode cX1_cover 131 = .ok (.bipush 30, 2) := dk_16 30 (dk_at dksX1_cover_5 14 rfl rfl)
theorem dX1_cover_133 : decode cX1_cover 133 = .ok (.if_icmp .gt 8, 3) := dk_163 0 8 (dk_at dksX1_cover_5 16 rfl rfl)
theorem dX1_cover_136 : decode cX1_cover 136 = .ok (.iload 7, 2) := dk_21 7 (dk_at dksX1_cover_5 19 rfl rfl)
theorem dX1_cover_138 : decode cX1_cover 138 = .ok (.goto 5, 3) := dk_167 0 5 (dk_at dksX1_cover_5 21 rfl rfl)
theorem dX1_cover_141 : decode cX1_cover 141 = .ok (.bipush (-2), 2) := dk_16 254 (dk_at dksX1_cover_6 0 rfl rfl)
theorem dX1_cover_143 : decode cX1_cover 143 = .ok (.ireturn, 1) := dk_172 (dk_at dksX1_cover_6 2 rfl rfl)
abbrev cX1_hold : ByteArray := prog_1_method_48_code
def yX1_hold : MethodName := ⟨RX1, "hold", "(I)I"⟩
def dkwX1_hold_1 : List UInt8 := [182, 0, 107, 172]
abbrev dktX1_hold_1 : List UInt8 := dkwX1_hold_1 ++ []
def dkwX1_hold_0 : List UInt8 := [42, 182, 0, 93, 42, 27, 182, 0, 153, 153, 0, 11, 42, 27, 182, 1, 52, 167, 0, 8, 42, 4]
abbrev dktX1_hold_0 : List UInt8 := dkwX1_hold_0 ++ dktX1_hold_1
theorem dksX1_hold_0 : cX1_hold.data.toList.drop 0 = dktX1_hold_0 := by decide +kernel
theorem dksX1_hold_1 : cX1_hold.data.toList.drop 22 = dktX1_hold_1 := dk_seg dksX1_hold_0 22 rfl rfl
theorem dX1_hold_0 : decode cX1_hold 0 = .ok (.aload_n 0, 1) := dk_42 (dk_at dksX1_hold_0 0 rfl rfl)
theorem dX1_hold_1 : decode cX1_hold 1 = .ok (.invokevirtual 93, 3) := dk_182 0 93 (dk_at dksX1_hold_0 1 rfl rfl)
theorem dX1_hold_4 : decode cX1_hold 4 = .ok (.aload_n 0, 1) := dk_42 (dk_at dksX1_hold_0 4 rfl rfl)
theorem dX1_hold_5 : decode cX1_hold 5 = .ok (.iload_n 1, 1) := dk_27 (dk_at dksX1_hold_0 5 rfl rfl)
theorem dX1_hold_6 : decode cX1_hold 6 = .ok (.invokevirtual 153, 3) := dk_182 0 153 (dk_at dksX1_hold_0 6 rfl rfl)
theorem dX1_hold_9 : decode cX1_hold 9 = .ok (.ifCond .eq 11, 3) := dk_153 0 11 (dk_at dksX1_hold_0 9 rfl rfl)
theorem dX1_hold_12 : decode cX1_hold 12 = .ok (.aload_n 0, 1) := dk_42 (dk_at dksX1_hold_0 12 rfl rfl)
theorem dX1_hold_13 : decode cX1_hold 13 = .ok (.iload_n 1, 1) := dk_27 (dk_at dksX1_hold_0 13 rfl rfl)
theorem dX1_hold_14 : decode cX1_hold 14 = .ok (.invokevirtual 308, 3) := dk_182 1 52 (dk_at dksX1_hold_0 14 rfl rfl)
theorem dX1_hold_17 : decode cX1_hold 17 = .ok (.goto 8, 3) := dk_167 0 8 (dk_at dksX1_hold_0 17 rfl rfl)
theorem dX1_hold_20 : decode cX1_hold 20 = .ok (.aload_n 0, 1) := dk_42 (dk_at dksX1_hold_0 20 rfl rfl)
theorem dX1_hold_21 : decode cX1_hold 21 = .ok (.iconst 1, 1) := dk_4 (dk_at dksX1_hold_0 21 rfl rfl)
theorem dX1_hold_22 : decode cX1_hold 22 = .ok (.invokevirtual 107, 3) := dk_182 0 107 (dk_at dksX1_hold_1 0 rfl rfl)
theorem dX1_hold_25 : decode cX1_hold 25 = .ok (.ireturn, 1) := dk_172 (dk_at dksX1_hold_1 3 rfl rfl)
abbrev cX1_bestHold : ByteArray := prog_1_method_47_code
def yX1_bestHold : MethodName := ⟨RX1, "bestHold", "(I)I"⟩
def dkwX1_bestHold_1 : List UInt8 := [164, 0, 5, 29, 61, 132, 3, 1, 167, 255, 230, 28, 172]
abbrev dktX1_bestHold_1 : List UInt8 := dkwX1_bestHold_1 ++ []
def dkwX1_bestHold_0 : List UInt8 := [3, 61, 4, 62, 29, 16, 60, 163, 0, 26, 42, 27, 29, 182, 1, 49, 42, 27, 28, 182, 1, 49]
abbrev dktX1_bestHold_0 : List UInt8 := dkwX1_bestHold_0 ++ dktX1_bestHold_1
theorem dksX1_bestHold_0 : cX1_bestHold.data.toList.drop 0 = dktX1_bestHold_0 := by decide +kernel
theorem dksX1_bestHold_1 : cX1_bestHold.data.toList.drop 22 = dktX1_bestHold_1 := dk_seg dksX1_bestHold_0 22 rfl rfl
theorem dX1_bestHold_0 : decode cX1_bestHold 0 = .ok (.iconst 0, 1) := dk_3 (dk_at dksX1_bestHold_0 0 rfl rfl)
theorem dX1_bestHold_1 : decode cX1_bestHold 1 = .ok (.istore_n 2, 1) := dk_61 (dk_at dksX1_bestHold_0 1 rfl rfl)
theorem dX1_bestHold_2 : decode cX1_bestHold 2 = .ok (.iconst 1, 1) := dk_4 (dk_at dksX1_bestHold_0 2 rfl rfl)
theorem dX1_bestHold_3 : decode cX1_bestHold 3 = .ok (.istore_n 3, 1) := dk_62 (dk_at dksX1_bestHold_0 3 rfl rfl)
theorem dX1_bestHold_4 : decode cX1_bestHold 4 = .ok (.iload_n 3, 1) := dk_29 (dk_at dksX1_bestHold_0 4 rfl rfl)
theorem dX1_bestHold_5 : decode cX1_bestHold 5 = .ok (.bipush 60, 2) := dk_16 60 (dk_at dksX1_bestHold_0 5 rfl rfl)
theorem dX1_bestHold_7 : decode cX1_bestHold 7 = .ok (.if_icmp .gt 26, 3) := dk_163 0 26 (dk_at dksX1_bestHold_0 7 rfl rfl)
theorem dX1_bestHold_10 : decode cX1_bestHold 10 = .ok (.aload_n 0, 1) := dk_42 (dk_at dksX1_bestHold_0 10 rfl rfl)
theorem dX1_bestHold_11 : decode cX1_bestHold 11 = .ok (.iload_n 1, 1) := dk_27 (dk_at dksX1_bestHold_0 11 rfl rfl)
theorem dX1_bestHold_12 : decode cX1_bestHold 12 = .ok (.iload_n 3, 1) := dk_29 (dk_at dksX1_bestHold_0 12 rfl rfl)
theorem dX1_bestHold_13 : decode cX1_bestHold 13 = .ok (.invokevirtual 305, 3) := dk_182 1 49 (dk_at dksX1_bestHold_0 13 rfl rfl)
theorem dX1_bestHold_16 : decode cX1_bestHold 16 = .ok (.aload_n 0, 1) := dk_42 (dk_at dksX1_bestHold_0 16 rfl rfl)
theorem dX1_bestHold_17 : decode cX1_bestHold 17 = .ok (.iload_n 1, 1) := dk_27 (dk_at dksX1_bestHold_0 17 rfl rfl)
theorem dX1_bestHold_18 : decode cX1_bestHold 18 = .ok (.iload_n 2, 1) := dk_28 (dk_at dksX1_bestHold_0 18 rfl rfl)
theorem dX1_bestHold_19 : decode cX1_bestHold 19 = .ok (.invokevirtual 305, 3) := dk_182 1 49 (dk_at dksX1_bestHold_0 19 rfl rfl)
theorem dX1_bestHold_22 : decode cX1_bestHold 22 = .ok (.if_icmp .le 5, 3) := dk_164 0 5 (dk_at dksX1_bestHold_1 0 rfl rfl)
theorem dX1_bestHold_25 : decode cX1_bestHold 25 = .ok (.iload_n 3, 1) := dk_29 (dk_at dksX1_bestHold_1 3 rfl rfl)
theorem dX1_bestHold_26 : decode cX1_bestHold 26 = .ok (.istore_n 2, 1) := dk_61 (dk_at dksX1_bestHold_1 4 rfl rfl)
theorem dX1_bestHold_27 : decode cX1_bestHold 27 = .ok (.iinc 3 1, 3) := dk_132 3 1 (dk_at dksX1_bestHold_1 5 rfl rfl)
theorem dX1_bestHold_30 : decode cX1_bestHold 30 = .ok (.goto (-26), 3) := dk_167 255 230 (dk_at dksX1_bestHold_1 8 rfl rfl)
theorem dX1_bestHold_33 : decode cX1_bestHold 33 = .ok (.iload_n 2, 1) := dk_28 (dk_at dksX1_bestHold_1 11 rfl rfl)
theorem dX1_bestHold_34 : decode cX1_bestHold 34 = .ok (.ireturn, 1) := dk_172 (dk_at dksX1_bestHold_1 12 rfl rfl)
abbrev cX1_holdOf : ByteArray := prog_1_method_46_code
def yX1_holdOf : MethodName := ⟨RX1, "holdOf", "(II)I"⟩
def dkwX1_holdOf_1 : List UInt8 := [182, 0, 238, 42, 180, 0, 43, 182, 0, 247, 100, 42, 180, 0, 118, 180, 1, 46, 28, 104, 100, 172]
abbrev dktX1_holdOf_1 : List UInt8 := dkwX1_holdOf_1 ++ []
def dkwX1_holdOf_0 : List UInt8 := [42, 180, 0, 118, 180, 0, 157, 27, 50, 78, 45, 42, 28, 182, 0, 238, 182, 0, 244, 45, 42, 28]
abbrev dktX1_holdOf_0 : List UInt8 := dkwX1_holdOf_0 ++ dktX1_holdOf_1
theorem dksX1_holdOf_0 : cX1_holdOf.data.toList.drop 0 = dktX1_holdOf_0 := by decide +kernel
theorem dksX1_holdOf_1 : cX1_holdOf.data.toList.drop 22 = dktX1_holdOf_1 := dk_seg dksX1_holdOf_0 22 rfl rfl
theorem dX1_holdOf_0 : decode cX1_holdOf 0 = .ok (.aload_n 0, 1) := dk_42 (dk_at dksX1_holdOf_0 0 rfl rfl)
theorem dX1_holdOf_1 : decode cX1_holdOf 1 = .ok (.getfield 118, 3) := dk_180 0 118 (dk_at dksX1_holdOf_0 1 rfl rfl)
theorem dX1_holdOf_4 : decode cX1_holdOf 4 = .ok (.getfield 157, 3) := dk_180 0 157 (dk_at dksX1_holdOf_0 4 rfl rfl)
theorem dX1_holdOf_7 : decode cX1_holdOf 7 = .ok (.iload_n 1, 1) := dk_27 (dk_at dksX1_holdOf_0 7 rfl rfl)
theorem dX1_holdOf_8 : decode cX1_holdOf 8 = .ok (.aaload, 1) := dk_50 (dk_at dksX1_holdOf_0 8 rfl rfl)
theorem dX1_holdOf_9 : decode cX1_holdOf 9 = .ok (.astore_n 3, 1) := dk_78 (dk_at dksX1_holdOf_0 9 rfl rfl)
theorem dX1_holdOf_10 : decode cX1_holdOf 10 = .ok (.aload_n 3, 1) := dk_45 (dk_at dksX1_holdOf_0 10 rfl rfl)
theorem dX1_holdOf_11 : decode cX1_holdOf 11 = .ok (.aload_n 0, 1) := dk_42 (dk_at dksX1_holdOf_0 11 rfl rfl)
theorem dX1_holdOf_12 : decode cX1_holdOf 12 = .ok (.iload_n 2, 1) := dk_28 (dk_at dksX1_holdOf_0 12 rfl rfl)
theorem dX1_holdOf_13 : decode cX1_holdOf 13 = .ok (.invokevirtual 238, 3) := dk_182 0 238 (dk_at dksX1_holdOf_0 13 rfl rfl)
theorem dX1_holdOf_16 : decode cX1_holdOf 16 = .ok (.invokevirtual 244, 3) := dk_182 0 244 (dk_at dksX1_holdOf_0 16 rfl rfl)
theorem dX1_holdOf_19 : decode cX1_holdOf 19 = .ok (.aload_n 3, 1) := dk_45 (dk_at dksX1_holdOf_0 19 rfl rfl)
theorem dX1_holdOf_20 : decode cX1_holdOf 20 = .ok (.aload_n 0, 1) := dk_42 (dk_at dksX1_holdOf_0 20 rfl rfl)
theorem dX1_holdOf_21 : decode cX1_holdOf 21 = .ok (.iload_n 2, 1) := dk_28 (dk_at dksX1_holdOf_0 21 rfl rfl)
theorem dX1_holdOf_22 : decode cX1_holdOf 22 = .ok (.invokevirtual 238, 3) := dk_182 0 238 (dk_at dksX1_holdOf_1 0 rfl rfl)
theorem dX1_holdOf_25 : decode cX1_holdOf 25 = .ok (.aload_n 0, 1) := dk_42 (dk_at dksX1_holdOf_1 3 rfl rfl)
theorem dX1_holdOf_26 : decode cX1_holdOf 26 = .ok (.getfield 43, 3) := dk_180 0 43 (dk_at dksX1_holdOf_1 4 rfl rfl)
theorem dX1_holdOf_29 : decode cX1_holdOf 29 = .ok (.invokevirtual 247, 3) := dk_182 0 247 (dk_at dksX1_holdOf_1 7 rfl rfl)
theorem dX1_holdOf_32 : decode cX1_holdOf 32 = .ok (.isub, 1) := dk_100 (dk_at dksX1_holdOf_1 10 rfl rfl)
theorem dX1_holdOf_33 : decode cX1_holdOf 33 = .ok (.aload_n 0, 1) := dk_42 (dk_at dksX1_holdOf_1 11 rfl rfl)
theorem dX1_holdOf_34 : decode cX1_holdOf 34 = .ok (.getfield 118, 3) := dk_180 0 118 (dk_at dksX1_holdOf_1 12 rfl rfl)
theorem dX1_holdOf_37 : decode cX1_holdOf 37 = .ok (.getfield 302, 3) := dk_180 1 46 (dk_at dksX1_holdOf_1 15 rfl rfl)
theorem dX1_holdOf_40 : decode cX1_holdOf 40 = .ok (.iload_n 2, 1) := dk_28 (dk_at dksX1_holdOf_1 18 rfl rfl)
theorem dX1_holdOf_41 : decode cX1_holdOf 41 = .ok (.imul, 1) := dk_104 (dk_at dksX1_holdOf_1 19 rfl rfl)
theorem dX1_holdOf_42 : decode cX1_holdOf 42 = .ok (.isub, 1) := dk_100 (dk_at dksX1_holdOf_1 20 rfl rfl)
theorem dX1_holdOf_43 : decode cX1_holdOf 43 = .ok (.ireturn, 1) := dk_172 (dk_at dksX1_holdOf_1 21 rfl rfl)
abbrev cX1_holdGain : ByteArray := prog_1_method_49_code
def yX1_holdGain : MethodName := ⟨RX1, "holdGain", "(I)I"⟩
def dkwX1_holdGain_1 : List UInt8 := [167, 0, 8, 42, 4, 182, 1, 55, 172]
abbrev dktX1_holdGain_1 : List UInt8 := dkwX1_holdGain_1 ++ []
def dkwX1_holdGain_0 : List UInt8 := [42, 182, 0, 93, 42, 27, 182, 0, 153, 153, 0, 16, 42, 27, 42, 27, 182, 1, 52, 182, 1, 49]
abbrev dktX1_holdGain_0 : List UInt8 := dkwX1_holdGain_0 ++ dktX1_holdGain_1
theorem dksX1_holdGain_0 : cX1_holdGain.data.toList.drop 0 = dktX1_holdGain_0 := by decide +kernel
theorem dksX1_holdGain_1 : cX1_holdGain.data.toList.drop 22 = dktX1_holdGain_1 := dk_seg dksX1_holdGain_0 22 rfl rfl
theorem dX1_holdGain_0 : decode cX1_holdGain 0 = .ok (.aload_n 0, 1) := dk_42 (dk_at dksX1_holdGain_0 0 rfl rfl)
theorem dX1_holdGain_1 : decode cX1_holdGain 1 = .ok (.invokevirtual 93, 3) := dk_182 0 93 (dk_at dksX1_holdGain_0 1 rfl rfl)
theorem dX1_holdGain_4 : decode cX1_holdGain 4 = .ok (.aload_n 0, 1) := dk_42 (dk_at dksX1_holdGain_0 4 rfl rfl)
theorem dX1_holdGain_5 : decode cX1_holdGain 5 = .ok (.iload_n 1, 1) := dk_27 (dk_at dksX1_holdGain_0 5 rfl rfl)
theorem dX1_holdGain_6 : decode cX1_holdGain 6 = .ok (.invokevirtual 153, 3) := dk_182 0 153 (dk_at dksX1_holdGain_0 6 rfl rfl)
theorem dX1_holdGain_9 : decode cX1_holdGain 9 = .ok (.ifCond .eq 16, 3) := dk_153 0 16 (dk_at dksX1_holdGain_0 9 rfl rfl)
theorem dX1_holdGain_12 : decode cX1_holdGain 12 = .ok (.aload_n 0, 1) := dk_42 (dk_at dksX1_holdGain_0 12 rfl rfl)
theorem dX1_holdGain_13 : decode cX1_holdGain 13 = .ok (.iload_n 1, 1) := dk_27 (dk_at dksX1_holdGain_0 13 rfl rfl)
theorem dX1_holdGain_14 : decode cX1_holdGain 14 = .ok (.aload_n 0, 1) := dk_42 (dk_at dksX1_holdGain_0 14 rfl rfl)
theorem dX1_holdGain_15 : decode cX1_holdGain 15 = .ok (.iload_n 1, 1) := dk_27 (dk_at dksX1_holdGain_0 15 rfl rfl)
theorem dX1_holdGain_16 : decode cX1_holdGain 16 = .ok (.invokevirtual 308, 3) := dk_182 1 52 (dk_at dksX1_holdGain_0 16 rfl rfl)
theorem dX1_holdGain_19 : decode cX1_holdGain 19 = .ok (.invokevirtual 305, 3) := dk_182 1 49 (dk_at dksX1_holdGain_0 19 rfl rfl)
theorem dX1_holdGain_22 : decode cX1_holdGain 22 = .ok (.goto 8, 3) := dk_167 0 8 (dk_at dksX1_holdGain_1 0 rfl rfl)
theorem dX1_holdGain_25 : decode cX1_holdGain 25 = .ok (.aload_n 0, 1) := dk_42 (dk_at dksX1_holdGain_1 3 rfl rfl)
theorem dX1_holdGain_26 : decode cX1_holdGain 26 = .ok (.iconst 1, 1) := dk_4 (dk_at dksX1_holdGain_1 4 rfl rfl)
theorem dX1_holdGain_27 : decode cX1_holdGain 27 = .ok (.invokevirtual 311, 3) := dk_182 1 55 (dk_at dksX1_holdGain_1 5 rfl rfl)
theorem dX1_holdGain_30 : decode cX1_holdGain 30 = .ok (.ireturn, 1) := dk_172 (dk_at dksX1_holdGain_1 8 rfl rfl)
abbrev cX1_less : ByteArray := prog_1_method_8_code
def yX1_less : MethodName := ⟨RX1, "less", "(I)I"⟩
def dkwX1_less_0 : List UInt8 := [42, 27, 181, 0, 90, 17, 216, 240, 172]
abbrev dktX1_less_0 : List UInt8 := dkwX1_less_0 ++ []
theorem dksX1_less_0 : cX1_less.data.toList.drop 0 = dktX1_less_0 := by decide +kernel
theorem dX1_less_0 : decode cX1_less 0 = .ok (.aload_n 0, 1) := dk_42 (dk_at dksX1_less_0 0 rfl rfl)
theorem dX1_less_1 : decode cX1_less 1 = .ok (.iload_n 1, 1) := dk_27 (dk_at dksX1_less_0 1 rfl rfl)
theorem dX1_less_2 : decode cX1_less 2 = .ok (.putfield 90, 3) := dk_181 0 90 (dk_at dksX1_less_0 2 rfl rfl)
theorem dX1_less_5 : decode cX1_less 5 = .ok (.sipush (-10000), 3) := dk_17 216 240 (dk_at dksX1_less_0 5 rfl rfl)
theorem dX1_less_8 : decode cX1_less 8 = .ok (.ireturn, 1) := dk_172 (dk_at dksX1_less_0 8 rfl rfl)
abbrev cX1_gain : ByteArray := prog_1_method_50_code
def yX1_gain : MethodName := ⟨RX1, "gain", "(II)I"⟩
def dkwX1_gain_2 : List UInt8 := [172]
abbrev dktX1_gain_2 : List UInt8 := dkwX1_gain_2 ++ []
def dkwX1_gain_1 : List UInt8 := [167, 0, 24, 42, 180, 0, 118, 180, 0, 157, 27, 50, 42, 28, 182, 0, 238, 42, 180, 0, 43, 182, 1, 58]
abbrev dktX1_gain_1 : List UInt8 := dkwX1_gain_1 ++ dktX1_gain_2
def dkwX1_gain_0 : List UInt8 := [42, 182, 0, 93, 42, 42, 27, 182, 0, 153, 28, 182, 0, 234, 62, 29, 153, 0, 11, 42, 29, 182, 1, 55]
abbrev dktX1_gain_0 : List UInt8 := dkwX1_gain_0 ++ dktX1_gain_1
theorem dksX1_gain_0 : cX1_gain.data.toList.drop 0 = dktX1_gain_0 := by decide +kernel
theorem dksX1_gain_1 : cX1_gain.data.toList.drop 24 = dktX1_gain_1 := dk_seg dksX1_gain_0 24 rfl rfl
theorem dksX1_gain_2 : cX1_gain.data.toList.drop 48 = dktX1_gain_2 := dk_seg dksX1_gain_1 24 rfl rfl
theorem dX1_gain_0 : decode cX1_gain 0 = .ok (.aload_n 0, 1) := dk_42 (dk_at dksX1_gain_0 0 rfl rfl)
theorem dX1_gain_1 : decode cX1_gain 1 = .ok (.invokevirtual 93, 3) := dk_182 0 93 (dk_at dksX1_gain_0 1 rfl rfl)
theorem dX1_gain_4 : decode cX1_gain 4 = .ok (.aload_n 0, 1) := dk_42 (dk_at dksX1_gain_0 4 rfl rfl)
theorem dX1_gain_5 : decode cX1_gain 5 = .ok (.aload_n 0, 1) := dk_42 (dk_at dksX1_gain_0 5 rfl rfl)
theorem dX1_gain_6 : decode cX1_gain 6 = .ok (.iload_n 1, 1) := dk_27 (dk_at dksX1_gain_0 6 rfl rfl)
theorem dX1_gain_7 : decode cX1_gain 7 = .ok (.invokevirtual 153, 3) := dk_182 0 153 (dk_at dksX1_gain_0 7 rfl rfl)
theorem dX1_gain_10 : decode cX1_gain 10 = .ok (.iload_n 2, 1) := dk_28 (dk_at dksX1_gain_0 10 rfl rfl)
theorem dX1_gain_11 : decode cX1_gain 11 = .ok (.invokevirtual 234, 3) := dk_182 0 234 (dk_at dksX1_gain_0 11 rfl rfl)
theorem dX1_gain_14 : decode cX1_gain 14 = .ok (.istore_n 3, 1) := dk_62 (dk_at dksX1_gain_0 14 rfl rfl)
theorem dX1_gain_15 : decode cX1_gain 15 = .ok (.iload_n 3, 1) := dk_29 (dk_at dksX1_gain_0 15 rfl rfl)
theorem dX1_gain_16 : decode cX1_gain 16 = .ok (.ifCond .eq 11, 3) := dk_153 0 11 (dk_at dksX1_gain_0 16 rfl rfl)
theorem dX1_gain_19 : decode cX1_gain 19 = .ok (.aload_n 0, 1) := dk_42 (dk_at dksX1_gain_0 19 rfl rfl)
theorem dX1_gain_20 : decode cX1_gain 20 = .ok (.iload_n 3, 1) := dk_29 (dk_at dksX1_gain_0 20 rfl rfl)
theorem dX1_gain_21 : decode cX1_gain 21 = .ok (.invokevirtual 311, 3) := dk_182 1 55 (dk_at dksX1_gain_0 21 rfl rfl)
theorem dX1_gain_24 : decode cX1_gain 24 = .ok (.goto 24, 3) := dk_167 0 24 (dk_at dksX1_gain_1 0 rfl rfl)
theorem dX1_gain_27 : decode cX1_gain 27 = .ok (.aload_n 0, 1) := dk_42 (dk_at dksX1_gain_1 3 rfl rfl)
theorem dX1_gain_28 : decode cX1_gain 28 = .ok (.getfield 118, 3) := dk_180 0 118 (dk_at dksX1_gain_1 4 rfl rfl)
theorem dX1_gain_31 : decode cX1_gain 31 = .ok (.getfield 157, 3) := dk_180 0 157 (dk_at dksX1_gain_1 7 rfl rfl)
theorem dX1_gain_34 : decode cX1_gain 34 = .ok (.iload_n 1, 1) := dk_27 (dk_at dksX1_gain_1 10 rfl rfl)
theorem dX1_gain_35 : decode cX1_gain 35 = .ok (.aaload, 1) := dk_50 (dk_at dksX1_gain_1 11 rfl rfl)
theorem dX1_gain_36 : decode cX1_gain 36 = .ok (.aload_n 0, 1) := dk_42 (dk_at dksX1_gain_1 12 rfl rfl)
theorem dX1_gain_37 : decode cX1_gain 37 = .ok (.iload_n 2, 1) := dk_28 (dk_at dksX1_gain_1 13 rfl rfl)
theorem dX1_gain_38 : decode cX1_gain 38 = .ok (.invokevirtual 238, 3) := dk_182 0 238 (dk_at dksX1_gain_1 14 rfl rfl)
theorem dX1_gain_41 : decode cX1_gain 41 = .ok (.aload_n 0, 1) := dk_42 (dk_at dksX1_gain_1 17 rfl rfl)
theorem dX1_gain_42 : decode cX1_gain 42 = .ok (.getfield 43, 3) := dk_180 0 43 (dk_at dksX1_gain_1 18 rfl rfl)
theorem dX1_gain_45 : decode cX1_gain 45 = .ok (.invokevirtual 314, 3) := dk_182 1 58 (dk_at dksX1_gain_1 21 rfl rfl)
theorem dX1_gain_48 : decode cX1_gain 48 = .ok (.ireturn, 1) := dk_172 (dk_at dksX1_gain_2 0 rfl rfl)
abbrev cX1_bestGood : ByteArray := prog_1_method_51_code
def yX1_bestGood : MethodName := ⟨RX1, "bestGood", "()I"⟩
def dkwX1_bestGood_5 : List UInt8 := [167, 255, 164, 27, 172]
abbrev dktX1_bestGood_5 : List UInt8 := dkwX1_bestGood_5 ++ []
def dkwX1_bestGood_4 : List UInt8 := [167, 0, 14, 16, 100, 29, 104, 21, 4, 96, 60, 21, 5, 61, 132, 4, 1, 167, 255, 184, 132, 3, 1]
abbrev dktX1_bestGood_4 : List UInt8 := dkwX1_bestGood_4 ++ dktX1_bestGood_5
def dkwX1_bestGood_3 : List UInt8 := [182, 0, 238, 42, 180, 0, 43, 182, 1, 58, 54, 5, 27, 16, 254, 159, 0, 12, 21, 5, 28, 163, 0, 6]
abbrev dktX1_bestGood_3 : List UInt8 := dkwX1_bestGood_3 ++ dktX1_bestGood_4
def dkwX1_bestGood_2 : List UInt8 := [180, 0, 33, 180, 0, 182, 29, 46, 154, 0, 59, 42, 180, 0, 118, 180, 0, 157, 29, 50, 42, 21, 4]
abbrev dktX1_bestGood_2 : List UInt8 := dkwX1_bestGood_2 ++ dktX1_bestGood_3
def dkwX1_bestGood_1 : List UInt8 := [29, 42, 180, 0, 118, 180, 0, 142, 162, 0, 87, 3, 54, 4, 21, 4, 16, 60, 163, 0, 71, 42]
abbrev dktX1_bestGood_1 : List UInt8 := dkwX1_bestGood_1 ++ dktX1_bestGood_2
def dkwX1_bestGood_0 : List UInt8 := [42, 182, 0, 93, 42, 180, 0, 118, 199, 0, 9, 42, 4, 182, 0, 107, 172, 16, 254, 60, 3, 61, 3, 62]
abbrev dktX1_bestGood_0 : List UInt8 := dkwX1_bestGood_0 ++ dktX1_bestGood_1
theorem dksX1_bestGood_0 : cX1_bestGood.data.toList.drop 0 = dktX1_bestGood_0 := by decide +kernel
theorem dksX1_bestGood_1 : cX1_bestGood.data.toList.drop 24 = dktX1_bestGood_1 := dk_seg dksX1_bestGood_0 24 rfl rfl
theorem dksX1_bestGood_2 : cX1_bestGood.data.toList.drop 46 = dktX1_bestGood_2 := dk_seg dksX1_bestGood_1 22 rfl rfl
theorem dksX1_bestGood_3 : cX1_bestGood.data.toList.drop 69 = dktX1_bestGood_3 := dk_seg dksX1_bestGood_2 23 rfl rfl
theorem dksX1_bestGood_4 : cX1_bestGood.data.toList.drop 93 = dktX1_bestGood_4 := dk_seg dksX1_bestGood_3 24 rfl rfl
theorem dksX1_bestGood_5 : cX1_bestGood.data.toList.drop 116 = dktX1_bestGood_5 := dk_seg dksX1_bestGood_4 23 rfl rfl
theorem dX1_bestGood_0 : decode cX1_bestGood 0 = .ok (.aload_n 0, 1) := dk_42 (dk_at dksX1_bestGood_0 0 rfl rfl)
theorem dX1_bestGood_1 : decode cX1_bestGood 1 = .ok (.invokevirtual 93, 3) := dk_182 0 93 (dk_at dksX1_bestGood_0 1 rfl rfl)
theorem dX1_bestGood_4 : decode cX1_bestGood 4 = .ok (.aload_n 0, 1) := dk_42 (dk_at dksX1_bestGood_0 4 rfl rfl)
theorem dX1_bestGood_5 : decode cX1_bestGood 5 = .ok (.getfield 118, 3) := dk_180 0 118 (dk_at dksX1_bestGood_0 5 rfl rfl)
theorem dX1_bestGood_8 : decode cX1_bestGood 8 = .ok (.ifnonnull 9, 3) := dk_199 0 9 (dk_at dksX1_bestGood_0 8 rfl rfl)
theorem dX1_bestGood_11 : decode cX1_bestGood 11 = .ok (.aload_n 0, 1) := dk_42 (dk_at dksX1_bestGood_0 11 rfl rfl)
theorem dX1_bestGood_12 : decode cX1_bestGood 12 = .ok (.iconst 1, 1) := dk_4 (dk_at dksX1_bestGood_0 12 rfl rfl)
theorem dX1_bestGood_13 : decode cX1_bestGood 13 = .ok (.invokevirtual 107, 3) := dk_182 0 107 (dk_at dksX1_bestGood_0 13 rfl rfl)
theorem dX1_bestGood_16 : decode cX1_bestGood 16 = .ok (.ireturn, 1) := dk_172 (dk_at dksX1_bestGood_0 16 rfl rfl)
theorem dX1_bestGood_17 : decode cX1_bestGood 17 = .ok (.bipush (-2), 2) := dk_16 254 (dk_at dksX1_bestGood_0 17 rfl rfl)
theorem dX1_bestGood_19 : decode cX1_bestGood 19 = .ok (.istore_n 1, 1) := dk_60 (dk_at dksX1_bestGood_0 19 rfl rfl)
theorem dX1_bestGood_20 : decode cX1_bestGood 20 = .ok (.iconst 0, 1) := dk_3 (dk_at dksX1_bestGood_0 20 rfl rfl)
theorem dX1_bestGood_21 : decode cX1_bestGood 21 = .ok (.istore_n 2, 1) := dk_61 (dk_at dksX1_bestGood_0 21 rfl rfl)
theorem dX1_bestGood_22 : decode cX1_bestGood 22 = .ok (.iconst 0, 1) := dk_3 (dk_at dksX1_bestGood_0 22 rfl rfl)
theorem dX1_bestGood_23 : decode cX1_bestGood 23 = .ok (.istore_n 3, 1) := dk_62 (dk_at dksX1_bestGood_0 23 rfl rfl)
theorem dX1_bestGood_24 : decode cX1_bestGood 24 = .ok (.iload_n 3, 1) := dk_29 (dk_at dksX1_bestGood_1 0 rfl rfl)
theorem dX1_bestGood_25 : decode cX1_bestGood 25 = .ok (.aload_n 0, 1) := dk_42 (dk_at dksX1_bestGood_1 1 rfl rfl)
theorem dX1_bestGood_26 : decode cX1_bestGood 26 = .ok (.getfield 118, 3) := dk_180 0 118 (dk_at dksX1_bestGood_1 2 rfl rfl)
theorem dX1_bestGood_29 : decode cX1_bestGood 29 = .ok (.getfield 142, 3) := dk_180 0 142 (dk_at dksX1_bestGood_1 5 rfl rfl)
theorem dX1_bestGood_32 : decode cX1_bestGood 32 = .ok (.if_icmp .ge 87, 3) := dk_162 0 87 (dk_at dksX1_bestGood_1 8 rfl rfl)
theorem dX1_bestGood_35 : decode cX1_bestGood 35 = .ok (.iconst 0, 1) := dk_3 (dk_at dksX1_bestGood_1 11 rfl rfl)
theorem dX1_bestGood_36 : decode cX1_bestGood 36 = .ok (.istore 4, 2) := dk_54 4 (dk_at dksX1_bestGood_1 12 rfl rfl)
theorem dX1_bestGood_38 : decode cX1_bestGood 38 = .ok (.iload 4, 2) := dk_21 4 (dk_at dksX1_bestGood_1 14 rfl rfl)
theorem dX1_bestGood_40 : decode cX1_bestGood 40 = .ok (.bipush 60, 2) := dk_16 60 (dk_at dksX1_bestGood_1 16 rfl rfl)
theorem dX1_bestGood_42 : decode cX1_bestGood 42 = .ok (.if_icmp .gt 71, 3) := dk_163 0 71 (dk_at dksX1_bestGood_1 18 rfl rfl)
theorem dX1_bestGood_45 : decode cX1_bestGood 45 = .ok (.aload_n 0, 1) := dk_42 (dk_at dksX1_bestGood_1 21 rfl rfl)
theorem dX1_bestGood_46 : decode cX1_bestGood 46 = .ok (.getfield 33, 3) := dk_180 0 33 (dk_at dksX1_bestGood_2 0 rfl rfl)
theorem dX1_bestGood_49 : decode cX1_bestGood 49 = .ok (.getfield 182, 3) := dk_180 0 182 (dk_at dksX1_bestGood_2 3 rfl rfl)
theorem dX1_bestGood_52 : decode cX1_bestGood 52 = .ok (.iload_n 3, 1) := dk_29 (dk_at dksX1_bestGood_2 6 rfl rfl)
theorem dX1_bestGood_53 : decode cX1_bestGood 53 = .ok (.iaload, 1) := dk_46 (dk_at dksX1_bestGood_2 7 rfl rfl)
theorem dX1_bestGood_54 : decode cX1_bestGood 54 = .ok (.ifCond .ne 59, 3) := dk_154 0 59 (dk_at dksX1_bestGood_2 8 rfl rfl)
theorem dX1_bestGood_57 : decode cX1_bestGood 57 = .ok (.aload_n 0, 1) := dk_42 (dk_at dksX1_bestGood_2 11 rfl rfl)
theorem dX1_bestGood_58 : decode cX1_bestGood 58 = .ok (.getfield 118, 3) := dk_180 0 118 (dk_at dksX1_bestGood_2 12 rfl rfl)
theorem dX1_bestGood_61 : decode cX1_bestGood 61 = .ok (.getfield 157, 3) := dk_180 0 157 (dk_at dksX1_bestGood_2 15 rfl rfl)
theorem dX1_bestGood_64 : decode cX1_bestGood 64 = .ok (.iload_n 3, 1) := dk_29 (dk_at dksX1_bestGood_2 18 rfl rfl)
theorem dX1_bestGood_65 : decode cX1_bestGood 65 = .ok (.aaload, 1) := dk_50 (dk_at dksX1_bestGood_2 19 rfl rfl)
theorem dX1_bestGood_66 : decode cX1_bestGood 66 = .ok (.aload_n 0, 1) := dk_42 (dk_at dksX1_bestGood_2 20 rfl rfl)
theorem dX1_bestGood_67 : decode cX1_bestGood 67 = .ok (.iload 4, 2) := dk_21 4 (dk_at dksX1_bestGood_2 21 rfl rfl)
theorem dX1_bestGood_69 : decode cX1_bestGood 69 = .ok (.invokevirtual 238, 3) := dk_182 0 238 (dk_at dksX1_bestGood_3 0 rfl rfl)
theorem dX1_bestGood_72 : decode cX1_bestGood 72 = .ok (.aload_n 0, 1) := dk_42 (dk_at dksX1_bestGood_3 3 rfl rfl)
theorem dX1_bestGood_73 : decode cX1_bestGood 73 = .ok (.getfield 43, 3) := dk_180 0 43 (dk_at dksX1_bestGood_3 4 rfl rfl)
theorem dX1_bestGood_76 : decode cX1_bestGood 76 = .ok (.invokevirtual 314, 3) := dk_182 1 58 (dk_at dksX1_bestGood_3 7 rfl rfl)
theorem dX1_bestGood_79 : decode cX1_bestGood 79 = .ok (.istore 5, 2) := dk_54 5 (dk_at dksX1_bestGood_3 10 rfl rfl)
theorem dX1_bestGood_81 : decode cX1_bestGood 81 = .ok (.iload_n 1, 1) := dk_27 (dk_at dksX1_bestGood_3 12 rfl rfl)
theorem dX1_bestGood_82 : decode cX1_bestGood 82 = .ok (.bipush (-2), 2) := dk_16 254 (dk_at dksX1_bestGood_3 13 rfl rfl)
theorem dX1_bestGood_84 : decode cX1_bestGood 84 = .ok (.if_icmp .eq 12, 3) := dk_159 0 12 (dk_at dksX1_bestGood_3 15 rfl rfl)
theorem dX1_bestGood_87 : decode cX1_bestGood 87 = .ok (.iload 5, 2) := dk_21 5 (dk_at dksX1_bestGood_3 18 rfl rfl)
theorem dX1_bestGood_89 : decode cX1_bestGood 89 = .ok (.iload_n 2, 1) := dk_28 (dk_at dksX1_bestGood_3 20 rfl rfl)
theorem dX1_bestGood_90 : decode cX1_bestGood 90 = .ok (.if_icmp .gt 6, 3) := dk_163 0 6 (dk_at dksX1_bestGood_3 21 rfl rfl)
theorem dX1_bestGood_93 : decode cX1_bestGood 93 = .ok (.goto 14, 3) := dk_167 0 14 (dk_at dksX1_bestGood_4 0 rfl rfl)
theorem dX1_bestGood_96 : decode cX1_bestGood 96 = .ok (.bipush 100, 2) := dk_16 100 (dk_at dksX1_bestGood_4 3 rfl rfl)
theorem dX1_bestGood_98 : decode cX1_bestGood 98 = .ok (.iload_n 3, 1) := dk_29 (dk_at dksX1_bestGood_4 5 rfl rfl)
theorem dX1_bestGood_99 : decode cX1_bestGood 99 = .ok (.imul, 1) := dk_104 (dk_at dksX1_bestGood_4 6 rfl rfl)
theorem dX1_bestGood_100 : decode cX1_bestGood 100 = .ok (.iload 4, 2) := dk_21 4 (dk_at dksX1_bestGood_4 7 rfl rfl)
theorem dX1_bestGood_102 : decode cX1_bestGood 102 = .ok (.iadd, 1) := dk_96 (dk_at dksX1_bestGood_4 9 rfl rfl)
theorem dX1_bestGood_103 : decode cX1_bestGood 103 = .ok (.istore_n 1, 1) := dk_60 (dk_at dksX1_bestGood_4 10 rfl rfl)
theorem dX1_bestGood_104 : decode cX1_bestGood 104 = .ok (.iload 5, 2) := dk_21 5 (dk_at dksX1_bestGood_4 11 rfl rfl)
theorem dX1_bestGood_106 : decode cX1_bestGood 106 = .ok (.istore_n 2, 1) := dk_61 (dk_at dksX1_bestGood_4 13 rfl rfl)
theorem dX1_bestGood_107 : decode cX1_bestGood 107 = .ok (.iinc 4 1, 3) := dk_132 4 1 (dk_at dksX1_bestGood_4 14 rfl rfl)
theorem dX1_bestGood_110 : decode cX1_bestGood 110 = .ok (.goto (-72), 3) := dk_167 255 184 (dk_at dksX1_bestGood_4 17 rfl rfl)
theorem dX1_bestGood_113 : decode cX1_bestGood 113 = .ok (.iinc 3 1, 3) := dk_132 3 1 (dk_at dksX1_bestGood_4 20 rfl rfl)
theorem dX1_bestGood_116 : decode cX1_bestGood 116 = .ok (.goto (-92), 3) := dk_167 255 164 (dk_at dksX1_bestGood_5 0 rfl rfl)
theorem dX1_bestGood_119 : decode cX1_bestGood 119 = .ok (.iload_n 1, 1) := dk_27 (dk_at dksX1_bestGood_5 3 rfl rfl)
theorem dX1_bestGood_120 : decode cX1_bestGood 120 = .ok (.ireturn, 1) := dk_172 (dk_at dksX1_bestGood_5 4 rfl rfl)
abbrev cX1_search : ByteArray := prog_1_method_53_code
def yX1_search : MethodName := ⟨RX1, "search", "(I)I"⟩
def dkwX1_search_4 : List UInt8 := [62, 132, 4, 1, 167, 255, 208, 29, 172]
abbrev dktX1_search_4 : List UInt8 := dkwX1_search_4 ++ []
def dkwX1_search_3 : List UInt8 := [160, 0, 25, 29, 2, 159, 0, 17, 42, 21, 4, 182, 1, 67, 42, 29, 182, 1, 67, 164, 0, 6, 21, 4]
abbrev dktX1_search_3 : List UInt8 := dkwX1_search_3 ++ dktX1_search_4
def dkwX1_search_2 : List UInt8 := [54, 4, 21, 4, 4, 42, 180, 0, 118, 180, 0, 147, 120, 162, 0, 40, 21, 4, 184, 1, 64, 28]
abbrev dktX1_search_2 : List UInt8 := dkwX1_search_2 ++ dktX1_search_3
def dkwX1_search_1 : List UInt8 := [154, 0, 9, 42, 5, 182, 0, 107, 172, 27, 42, 180, 0, 118, 180, 0, 147, 184, 1, 61, 61, 2, 62, 3]
abbrev dktX1_search_1 : List UInt8 := dkwX1_search_1 ++ dktX1_search_2
def dkwX1_search_0 : List UInt8 := [42, 182, 0, 93, 42, 180, 0, 118, 199, 0, 9, 42, 4, 182, 0, 107, 172, 27, 3, 7, 184, 0, 103]
abbrev dktX1_search_0 : List UInt8 := dkwX1_search_0 ++ dktX1_search_1
theorem dksX1_search_0 : cX1_search.data.toList.drop 0 = dktX1_search_0 := by decide +kernel
theorem dksX1_search_1 : cX1_search.data.toList.drop 23 = dktX1_search_1 := dk_seg dksX1_search_0 23 rfl rfl
theorem dksX1_search_2 : cX1_search.data.toList.drop 47 = dktX1_search_2 := dk_seg dksX1_search_1 24 rfl rfl
theorem dksX1_search_3 : cX1_search.data.toList.drop 69 = dktX1_search_3 := dk_seg dksX1_search_2 22 rfl rfl
theorem dksX1_search_4 : cX1_search.data.toList.drop 93 = dktX1_search_4 := dk_seg dksX1_search_3 24 rfl rfl
theorem dX1_search_0 : decode cX1_search 0 = .ok (.aload_n 0, 1) := dk_42 (dk_at dksX1_search_0 0 rfl rfl)
theorem dX1_search_1 : decode cX1_search 1 = .ok (.invokevirtual 93, 3) := dk_182 0 93 (dk_at dksX1_search_0 1 rfl rfl)
theorem dX1_search_4 : decode cX1_search 4 = .ok (.aload_n 0, 1) := dk_42 (dk_at dksX1_search_0 4 rfl rfl)
theorem dX1_search_5 : decode cX1_search 5 = .ok (.getfield 118, 3) := dk_180 0 118 (dk_at dksX1_search_0 5 rfl rfl)
theorem dX1_search_8 : decode cX1_search 8 = .ok (.ifnonnull 9, 3) := dk_199 0 9 (dk_at dksX1_search_0 8 rfl rfl)
theorem dX1_search_11 : decode cX1_search 11 = .ok (.aload_n 0, 1) := dk_42 (dk_at dksX1_search_0 11 rfl rfl)
theorem dX1_search_12 : decode cX1_search 12 = .ok (.iconst 1, 1) := dk_4 (dk_at dksX1_search_0 12 rfl rfl)
theorem dX1_search_13 : decode cX1_search 13 = .ok (.invokevirtual 107, 3) := dk_182 0 107 (dk_at dksX1_search_0 13 rfl rfl)
theorem dX1_search_16 : decode cX1_search 16 = .ok (.ireturn, 1) := dk_172 (dk_at dksX1_search_0 16 rfl rfl)
theorem dX1_search_17 : decode cX1_search 17 = .ok (.iload_n 1, 1) := dk_27 (dk_at dksX1_search_0 17 rfl rfl)
theorem dX1_search_18 : decode cX1_search 18 = .ok (.iconst 0, 1) := dk_3 (dk_at dksX1_search_0 18 rfl rfl)
theorem dX1_search_19 : decode cX1_search 19 = .ok (.iconst 4, 1) := dk_7 (dk_at dksX1_search_0 19 rfl rfl)
theorem dX1_search_20 : decode cX1_search 20 = .ok (.invokestatic 103, 3) := dk_184 0 103 (dk_at dksX1_search_0 20 rfl rfl)
theorem dX1_search_23 : decode cX1_search 23 = .ok (.ifCond .ne 9, 3) := dk_154 0 9 (dk_at dksX1_search_1 0 rfl rfl)
theorem dX1_search_26 : decode cX1_search 26 = .ok (.aload_n 0, 1) := dk_42 (dk_at dksX1_search_1 3 rfl rfl)
theorem dX1_search_27 : decode cX1_search 27 = .ok (.iconst 2, 1) := dk_5 (dk_at dksX1_search_1 4 rfl rfl)
theorem dX1_search_28 : decode cX1_search 28 = .ok (.invokevirtual 107, 3) := dk_182 0 107 (dk_at dksX1_search_1 5 rfl rfl)
theorem dX1_search_31 : decode cX1_search 31 = .ok (.ireturn, 1) := dk_172 (dk_at dksX1_search_1 8 rfl rfl)
theorem dX1_search_32 : decode cX1_search 32 = .ok (.iload_n 1, 1) := dk_27 (dk_at dksX1_search_1 9 rfl rfl)
theorem dX1_search_33 : decode cX1_search 33 = .ok (.aload_n 0, 1) := dk_42 (dk_at dksX1_search_1 10 rfl rfl)
theorem dX1_search_34 : decode cX1_search 34 = .ok (.getfield 118, 3) := dk_180 0 118 (dk_at dksX1_search_1 11 rfl rfl)
theorem dX1_search_37 : decode cX1_search 37 = .ok (.getfield 147, 3) := dk_180 0 147 (dk_at dksX1_search_1 14 rfl rfl)
theorem dX1_search_40 : decode cX1_search 40 = .ok (.invokestatic 317, 3) := dk_184 1 61 (dk_at dksX1_search_1 17 rfl rfl)
theorem dX1_search_43 : decode cX1_search 43 = .ok (.istore_n 2, 1) := dk_61 (dk_at dksX1_search_1 20 rfl rfl)
theorem dX1_search_44 : decode cX1_search 44 = .ok (.iconst (-1), 1) := dk_2 (dk_at dksX1_search_1 21 rfl rfl)
theorem dX1_search_45 : decode cX1_search 45 = .ok (.istore_n 3, 1) := dk_62 (dk_at dksX1_search_1 22 rfl rfl)
theorem dX1_search_46 : decode cX1_search 46 = .ok (.iconst 0, 1) := dk_3 (dk_at dksX1_search_1 23 rfl rfl)
theorem dX1_search_47 : decode cX1_search 47 = .ok (.istore 4, 2) := dk_54 4 (dk_at dksX1_search_2 0 rfl rfl)
theorem dX1_search_49 : decode cX1_search 49 = .ok (.iload 4, 2) := dk_21 4 (dk_at dksX1_search_2 2 rfl rfl)
theorem dX1_search_51 : decode cX1_search 51 = .ok (.iconst 1, 1) := dk_4 (dk_at dksX1_search_2 4 rfl rfl)
theorem dX1_search_52 : decode cX1_search 52 = .ok (.aload_n 0, 1) := dk_42 (dk_at dksX1_search_2 5 rfl rfl)
theorem dX1_search_53 : decode cX1_search 53 = .ok (.getfield 118, 3) := dk_180 0 118 (dk_at dksX1_search_2 6 rfl rfl)
theorem dX1_search_56 : decode cX1_search 56 = .ok (.getfield 147, 3) := dk_180 0 147 (dk_at dksX1_search_2 9 rfl rfl)
theorem dX1_search_59 : decode cX1_search 59 = .ok (.ishl, 1) := dk_120 (dk_at dksX1_search_2 12 rfl rfl)
theorem dX1_search_60 : decode cX1_search 60 = .ok (.if_icmp .ge 40, 3) := dk_162 0 40 (dk_at dksX1_search_2 13 rfl rfl)
theorem dX1_search_63 : decode cX1_search 63 = .ok (.iload 4, 2) := dk_21 4 (dk_at dksX1_search_2 16 rfl rfl)
theorem dX1_search_65 : decode cX1_search 65 = .ok (.invokestatic 320, 3) := dk_184 1 64 (dk_at dksX1_search_2 18 rfl rfl)
theorem dX1_search_68 : decode cX1_search 68 = .ok (.iload_n 2, 1) := dk_28 (dk_at dksX1_search_2 21 rfl rfl)
theorem dX1_search_69 : decode cX1_search 69 = .ok (.if_icmp .ne 25, 3) := dk_160 0 25 (dk_at dksX1_search_3 0 rfl rfl)
theorem dX1_search_72 : decode cX1_search 72 = .ok (.iload_n 3, 1) := dk_29 (dk_at dksX1_search_3 3 rfl rfl)
theorem dX1_search_73 : decode cX1_search 73 = .ok (.iconst (-1), 1) := dk_2 (dk_at dksX1_search_3 4 rfl rfl)
theorem dX1_search_74 : decode cX1_search 74 = .ok (.if_icmp .eq 17, 3) := dk_159 0 17 (dk_at dksX1_search_3 5 rfl rfl)
theorem dX1_search_77 : decode cX1_search 77 = .ok (.aload_n 0, 1) := dk_42 (dk_at dksX1_search_3 8 rfl rfl)
theorem dX1_search_78 : decode cX1_search 78 = .ok (.iload 4, 2) := dk_21 4 (dk_at dksX1_search_3 9 rfl rfl)
theorem dX1_search_80 : decode cX1_search 80 = .ok (.invokevirtual 323, 3) := dk_182 1 67 (dk_at dksX1_search_3 11 rfl rfl)
theorem dX1_search_83 : decode cX1_search 83 = .ok (.aload_n 0, 1) := dk_42 (dk_at dksX1_search_3 14 rfl rfl)
theorem dX1_search_84 : decode cX1_search 84 = .ok (.iload_n 3, 1) := dk_29 (dk_at dksX1_search_3 15 rfl rfl)
theorem dX1_search_85 : decode cX1_search 85 = .ok (.invokevirtual 323, 3) := dk_182 1 67 (dk_at dksX1_search_3 16 rfl rfl)
theorem dX1_search_88 : decode cX1_search 88 = .ok (.if_icmp .le 6, 3) := dk_164 0 6 (dk_at dksX1_search_3 19 rfl rfl)
theorem dX1_search_91 : decode cX1_search 91 = .ok (.iload 4, 2) := dk_21 4 (dk_at dksX1_search_3 22 rfl rfl)
theorem dX1_search_93 : decode cX1_search 93 = .ok (.istore_n 3, 1) := dk_62 (dk_at dksX1_search_4 0 rfl rfl)
theorem dX1_search_94 : decode cX1_search 94 = .ok (.iinc 4 1, 3) := dk_132 4 1 (dk_at dksX1_search_4 1 rfl rfl)
theorem dX1_search_97 : decode cX1_search 97 = .ok (.goto (-48), 3) := dk_167 255 208 (dk_at dksX1_search_4 4 rfl rfl)
theorem dX1_search_100 : decode cX1_search 100 = .ok (.iload_n 3, 1) := dk_29 (dk_at dksX1_search_4 7 rfl rfl)
theorem dX1_search_101 : decode cX1_search 101 = .ok (.ireturn, 1) := dk_172 (dk_at dksX1_search_4 8 rfl rfl)
abbrev cX1_hiddenWorth : ByteArray := prog_1_method_52_code
def yX1_hiddenWorth : MethodName := ⟨RX1, "hiddenWorth", "(I)I"⟩
def dkwX1_hiddenWorth_3 : List UInt8 := [180, 0, 33, 180, 0, 231, 182, 0, 244, 167, 0, 4, 3, 96, 61, 132, 3, 1, 167, 255, 171, 28, 172]
abbrev dktX1_hiddenWorth_3 : List UInt8 := dkwX1_hiddenWorth_3 ++ []
def dkwX1_hiddenWorth_2 : List UInt8 := [180, 0, 157, 29, 50, 180, 0, 176, 184, 0, 189, 153, 0, 25, 42, 180, 0, 118, 180, 0, 157, 29, 50, 42]
abbrev dktX1_hiddenWorth_2 : List UInt8 := dkwX1_hiddenWorth_2 ++ dktX1_hiddenWorth_3
def dkwX1_hiddenWorth_1 : List UInt8 := [46, 154, 0, 58, 42, 180, 0, 33, 180, 0, 186, 29, 184, 0, 189, 153, 0, 44, 27, 42, 180, 0, 118]
abbrev dktX1_hiddenWorth_1 : List UInt8 := dkwX1_hiddenWorth_1 ++ dktX1_hiddenWorth_2
def dkwX1_hiddenWorth_0 : List UInt8 := [3, 61, 3, 62, 29, 42, 180, 0, 118, 180, 0, 142, 162, 0, 80, 28, 42, 180, 0, 33, 180, 0, 182, 29]
abbrev dktX1_hiddenWorth_0 : List UInt8 := dkwX1_hiddenWorth_0 ++ dktX1_hiddenWorth_1
theorem dksX1_hiddenWorth_0 : cX1_hiddenWorth.data.toList.drop 0 = dktX1_hiddenWorth_0 := by decide +kernel
theorem dksX1_hiddenWorth_1 : cX1_hiddenWorth.data.toList.drop 24 = dktX1_hiddenWorth_1 := dk_seg dksX1_hiddenWorth_0 24 rfl rfl
theorem dksX1_hiddenWorth_2 : cX1_hiddenWorth.data.toList.drop 47 = dktX1_hiddenWorth_2 := dk_seg dksX1_hiddenWorth_1 23 rfl rfl
theorem dksX1_hiddenWorth_3 : cX1_hiddenWorth.data.toList.drop 71 = dktX1_hiddenWorth_3 := dk_seg dksX1_hiddenWorth_2 24 rfl rfl
theorem dX1_hiddenWorth_0 : decode cX1_hiddenWorth 0 = .ok (.iconst 0, 1) := dk_3 (dk_at dksX1_hiddenWorth_0 0 rfl rfl)
theorem dX1_hiddenWorth_1 : decode cX1_hiddenWorth 1 = .ok (.istore_n 2, 1) := dk_61 (dk_at dksX1_hiddenWorth_0 1 rfl rfl)
theorem dX1_hiddenWorth_2 : decode cX1_hiddenWorth 2 = .ok (.iconst 0, 1) := dk_3 (dk_at dksX1_hiddenWorth_0 2 rfl rfl)
theorem dX1_hiddenWorth_3 : decode cX1_hiddenWorth 3 = .ok (.istore_n 3, 1) := dk_62 (dk_at dksX1_hiddenWorth_0 3 rfl rfl)
theorem dX1_hiddenWorth_4 : decode cX1_hiddenWorth 4 = .ok (.iload_n 3, 1) := dk_29 (dk_at dksX1_hiddenWorth_0 4 rfl rfl)
theorem dX1_hiddenWorth_5 : decode cX1_hiddenWorth 5 = .ok (.aload_n 0, 1) := dk_42 (dk_at dksX1_hiddenWorth_0 5 rfl rfl)
theorem dX1_hiddenWorth_6 : decode cX1_hiddenWorth 6 = .ok (.getfield 118, 3) := dk_180 0 118 (dk_at dksX1_hiddenWorth_0 6 rfl rfl)
theorem dX1_hiddenWorth_9 : decode cX1_hiddenWorth 9 = .ok (.getfield 142, 3) := dk_180 0 142 (dk_at dksX1_hiddenWorth_0 9 rfl rfl)
theorem dX1_hiddenWorth_12 : decode cX1_hiddenWorth 12 = .ok (.if_icmp .ge 80, 3) := dk_162 0 80 (dk_at dksX1_hiddenWorth_0 12 rfl rfl)
theorem dX1_hiddenWorth_15 : decode cX1_hiddenWorth 15 = .ok (.iload_n 2, 1) := dk_28 (dk_at dksX1_hiddenWorth_0 15 rfl rfl)
theorem dX1_hiddenWorth_16 : decode cX1_hiddenWorth 16 = .ok (.aload_n 0, 1) := dk_42 (dk_at dksX1_hiddenWorth_0 16 rfl rfl)
theorem dX1_hiddenWorth_17 : decode cX1_hiddenWorth 17 = .ok (.getfield 33, 3) := dk_180 0 33 (dk_at dksX1_hiddenWorth_0 17 rfl rfl)
theorem dX1_hiddenWorth_20 : decode cX1_hiddenWorth 20 = .ok (.getfield 182, 3) := dk_180 0 182 (dk_at dksX1_hiddenWorth_0 20 rfl rfl)
theorem dX1_hiddenWorth_23 : decode cX1_hiddenWorth 23 = .ok (.iload_n 3, 1) := dk_29 (dk_at dksX1_hiddenWorth_0 23 rfl rfl)
theorem dX1_hiddenWorth_24 : decode cX1_hiddenWorth 24 = .ok (.iaload, 1) := dk_46 (dk_at dksX1_hiddenWorth_1 0 rfl rfl)
theorem dX1_hiddenWorth_25 : decode cX1_hiddenWorth 25 = .ok (.ifCond .ne 58, 3) := dk_154 0 58 (dk_at dksX1_hiddenWorth_1 1 rfl rfl)
theorem dX1_hiddenWorth_28 : decode cX1_hiddenWorth 28 = .ok (.aload_n 0, 1) := dk_42 (dk_at dksX1_hiddenWorth_1 4 rfl rfl)
theorem dX1_hiddenWorth_29 : decode cX1_hiddenWorth 29 = .ok (.getfield 33, 3) := dk_180 0 33 (dk_at dksX1_hiddenWorth_1 5 rfl rfl)
theorem dX1_hiddenWorth_32 : decode cX1_hiddenWorth 32 = .ok (.getfield 186, 3) := dk_180 0 186 (dk_at dksX1_hiddenWorth_1 8 rfl rfl)
theorem dX1_hiddenWorth_35 : decode cX1_hiddenWorth 35 = .ok (.iload_n 3, 1) := dk_29 (dk_at dksX1_hiddenWorth_1 11 rfl rfl)
theorem dX1_hiddenWorth_36 : decode cX1_hiddenWorth 36 = .ok (.invokestatic 189, 3) := dk_184 0 189 (dk_at dksX1_hiddenWorth_1 12 rfl rfl)
theorem dX1_hiddenWorth_39 : decode cX1_hiddenWorth 39 = .ok (.ifCond .eq 44, 3) := dk_153 0 44 (dk_at dksX1_hiddenWorth_1 15 rfl rfl)
theorem dX1_hiddenWorth_42 : decode cX1_hiddenWorth 42 = .ok (.iload_n 1, 1) := dk_27 (dk_at dksX1_hiddenWorth_1 18 rfl rfl)
theorem dX1_hiddenWorth_43 : decode cX1_hiddenWorth 43 = .ok (.aload_n 0, 1) := dk_42 (dk_at dksX1_hiddenWorth_1 19 rfl rfl)
theorem dX1_hiddenWorth_44 : decode cX1_hiddenWorth 44 = .ok (.getfield 118, 3) := dk_180 0 118 (dk_at dksX1_hiddenWorth_1 20 rfl rfl)
theorem dX1_hiddenWorth_47 : decode cX1_hiddenWorth 47 = .ok (.getfield 157, 3) := dk_180 0 157 (dk_at dksX1_hiddenWorth_2 0 rfl rfl)
theorem dX1_hiddenWorth_50 : decode cX1_hiddenWorth 50 = .ok (.iload_n 3, 1) := dk_29 (dk_at dksX1_hiddenWorth_2 3 rfl rfl)
theorem dX1_hiddenWorth_51 : decode cX1_hiddenWorth 51 = .ok (.aaload, 1) := dk_50 (dk_at dksX1_hiddenWorth_2 4 rfl rfl)
theorem dX1_hiddenWorth_52 : decode cX1_hiddenWorth 52 = .ok (.getfield 176, 3) := dk_180 0 176 (dk_at dksX1_hiddenWorth_2 5 rfl rfl)
theorem dX1_hiddenWorth_55 : decode cX1_hiddenWorth 55 = .ok (.invokestatic 189, 3) := dk_184 0 189 (dk_at dksX1_hiddenWorth_2 8 rfl rfl)
theorem dX1_hiddenWorth_58 : decode cX1_hiddenWorth 58 = .ok (.ifCond .eq 25, 3) := dk_153 0 25 (dk_at dksX1_hiddenWorth_2 11 rfl rfl)
theorem dX1_hiddenWorth_61 : decode cX1_hiddenWorth 61 = .ok (.aload_n 0, 1) := dk_42 (dk_at dksX1_hiddenWorth_2 14 rfl rfl)
theorem dX1_hiddenWorth_62 : decode cX1_hiddenWorth 62 = .ok (.getfield 118, 3) := dk_180 0 118 (dk_at dksX1_hiddenWorth_2 15 rfl rfl)
theorem dX1_hiddenWorth_65 : decode cX1_hiddenWorth 65 = .ok (.getfield 157, 3) := dk_180 0 157 (dk_at dksX1_hiddenWorth_2 18 rfl rfl)
theorem dX1_hiddenWorth_68 : decode cX1_hiddenWorth 68 = .ok (.iload_n 3, 1) := dk_29 (dk_at dksX1_hiddenWorth_2 21 rfl rfl)
theorem dX1_hiddenWorth_69 : decode cX1_hiddenWorth 69 = .ok (.aaload, 1) := dk_50 (dk_at dksX1_hiddenWorth_2 22 rfl rfl)
theorem dX1_hiddenWorth_70 : decode cX1_hiddenWorth 70 = .ok (.aload_n 0, 1) := dk_42 (dk_at dksX1_hiddenWorth_2 23 rfl rfl)
theorem dX1_hiddenWorth_71 : decode cX1_hiddenWorth 71 = .ok (.getfield 33, 3) := dk_180 0 33 (dk_at dksX1_hiddenWorth_3 0 rfl rfl)
theorem dX1_hiddenWorth_74 : decode cX1_hiddenWorth 74 = .ok (.getfield 231, 3) := dk_180 0 231 (dk_at dksX1_hiddenWorth_3 3 rfl rfl)
theorem dX1_hiddenWorth_77 : decode cX1_hiddenWorth 77 = .ok (.invokevirtual 244, 3) := dk_182 0 244 (dk_at dksX1_hiddenWorth_3 6 rfl rfl)
theorem dX1_hiddenWorth_80 : decode cX1_hiddenWorth 80 = .ok (.goto 4, 3) := dk_167 0 4 (dk_at dksX1_hiddenWorth_3 9 rfl rfl)
theorem dX1_hiddenWorth_83 : decode cX1_hiddenWorth 83 = .ok (.iconst 0, 1) := dk_3 (dk_at dksX1_hiddenWorth_3 12 rfl rfl)
theorem dX1_hiddenWorth_84 : decode cX1_hiddenWorth 84 = .ok (.iadd, 1) := dk_96 (dk_at dksX1_hiddenWorth_3 13 rfl rfl)
theorem dX1_hiddenWorth_85 : decode cX1_hiddenWorth 85 = .ok (.istore_n 2, 1) := dk_61 (dk_at dksX1_hiddenWorth_3 14 rfl rfl)
theorem dX1_hiddenWorth_86 : decode cX1_hiddenWorth 86 = .ok (.iinc 3 1, 3) := dk_132 3 1 (dk_at dksX1_hiddenWorth_3 15 rfl rfl)
theorem dX1_hiddenWorth_89 : decode cX1_hiddenWorth 89 = .ok (.goto (-85), 3) := dk_167 255 171 (dk_at dksX1_hiddenWorth_3 18 rfl rfl)
theorem dX1_hiddenWorth_92 : decode cX1_hiddenWorth 92 = .ok (.iload_n 2, 1) := dk_28 (dk_at dksX1_hiddenWorth_3 21 rfl rfl)
theorem dX1_hiddenWorth_93 : decode cX1_hiddenWorth 93 = .ok (.ireturn, 1) := dk_172 (dk_at dksX1_hiddenWorth_3 22 rfl rfl)
abbrev cX1_planned : ByteArray := prog_1_method_54_code
def yX1_planned : MethodName := ⟨RX1, "planned", "(I)I"⟩
def dkwX1_planned_1 : List UInt8 := [184, 0, 103, 153, 0, 14, 42, 180, 0, 56, 27, 182, 1, 73, 167, 0, 8, 42, 4, 182, 0, 107, 172]
abbrev dktX1_planned_1 : List UInt8 := dkwX1_planned_1 ++ []
def dkwX1_planned_0 : List UInt8 := [42, 182, 0, 93, 42, 180, 0, 118, 198, 0, 31, 27, 3, 42, 180, 0, 118, 180, 1, 70, 4, 100]
abbrev dktX1_planned_0 : List UInt8 := dkwX1_planned_0 ++ dktX1_planned_1
theorem dksX1_planned_0 : cX1_planned.data.toList.drop 0 = dktX1_planned_0 := by decide +kernel
theorem dksX1_planned_1 : cX1_planned.data.toList.drop 22 = dktX1_planned_1 := dk_seg dksX1_planned_0 22 rfl rfl
theorem dX1_planned_0 : decode cX1_planned 0 = .ok (.aload_n 0, 1) := dk_42 (dk_at dksX1_planned_0 0 rfl rfl)
theorem dX1_planned_1 : decode cX1_planned 1 = .ok (.invokevirtual 93, 3) := dk_182 0 93 (dk_at dksX1_planned_0 1 rfl rfl)
theorem dX1_planned_4 : decode cX1_planned 4 = .ok (.aload_n 0, 1) := dk_42 (dk_at dksX1_planned_0 4 rfl rfl)
theorem dX1_planned_5 : decode cX1_planned 5 = .ok (.getfield 118, 3) := dk_180 0 118 (dk_at dksX1_planned_0 5 rfl rfl)
theorem dX1_planned_8 : decode cX1_planned 8 = .ok (.ifnull 31, 3) := dk_198 0 31 (dk_at dksX1_planned_0 8 rfl rfl)
theorem dX1_planned_11 : decode cX1_planned 11 = .ok (.iload_n 1, 1) := dk_27 (dk_at dksX1_planned_0 11 rfl rfl)
theorem dX1_planned_12 : decode cX1_planned 12 = .ok (.iconst 0, 1) := dk_3 (dk_at dksX1_planned_0 12 rfl rfl)
theorem dX1_planned_13 : decode cX1_planned 13 = .ok (.aload_n 0, 1) := dk_42 (dk_at dksX1_planned_0 13 rfl rfl)
theorem dX1_planned_14 : decode cX1_planned 14 = .ok (.getfield 118, 3) := dk_180 0 118 (dk_at dksX1_planned_0 14 rfl rfl)
theorem dX1_planned_17 : decode cX1_planned 17 = .ok (.getfield 326, 3) := dk_180 1 70 (dk_at dksX1_planned_0 17 rfl rfl)
theorem dX1_planned_20 : decode cX1_planned 20 = .ok (.iconst 1, 1) := dk_4 (dk_at dksX1_planned_0 20 rfl rfl)
theorem dX1_planned_21 : decode cX1_planned 21 = .ok (.isub, 1) := dk_100 (dk_at dksX1_planned_0 21 rfl rfl)
theorem dX1_planned_22 : decode cX1_planned 22 = .ok (.invokestatic 103, 3) := dk_184 0 103 (dk_at dksX1_planned_1 0 rfl rfl)
theorem dX1_planned_25 : decode cX1_planned 25 = .ok (.ifCond .eq 14, 3) := dk_153 0 14 (dk_at dksX1_planned_1 3 rfl rfl)
theorem dX1_planned_28 : decode cX1_planned 28 = .ok (.aload_n 0, 1) := dk_42 (dk_at dksX1_planned_1 6 rfl rfl)
theorem dX1_planned_29 : decode cX1_planned 29 = .ok (.getfield 56, 3) := dk_180 0 56 (dk_at dksX1_planned_1 7 rfl rfl)
theorem dX1_planned_32 : decode cX1_planned 32 = .ok (.iload_n 1, 1) := dk_27 (dk_at dksX1_planned_1 10 rfl rfl)
theorem dX1_planned_33 : decode cX1_planned 33 = .ok (.invokevirtual 329, 3) := dk_182 1 73 (dk_at dksX1_planned_1 11 rfl rfl)
theorem dX1_planned_36 : decode cX1_planned 36 = .ok (.goto 8, 3) := dk_167 0 8 (dk_at dksX1_planned_1 14 rfl rfl)
theorem dX1_planned_39 : decode cX1_planned 39 = .ok (.aload_n 0, 1) := dk_42 (dk_at dksX1_planned_1 17 rfl rfl)
theorem dX1_planned_40 : decode cX1_planned 40 = .ok (.iconst 1, 1) := dk_4 (dk_at dksX1_planned_1 18 rfl rfl)
theorem dX1_planned_41 : decode cX1_planned 41 = .ok (.invokevirtual 107, 3) := dk_182 0 107 (dk_at dksX1_planned_1 19 rfl rfl)
theorem dX1_planned_44 : decode cX1_planned 44 = .ok (.ireturn, 1) := dk_172 (dk_at dksX1_planned_1 22 rfl rfl)
abbrev cX1_judge : ByteArray := prog_1_method_55_code
def yX1_judge : MethodName := ⟨RX1, "judge", "()I"⟩
def dkwX1_judge_2 : List UInt8 := [167, 255, 227, 16, 254, 172]
abbrev dktX1_judge_2 : List UInt8 := dkwX1_judge_2 ++ []
def dkwX1_judge_1 : List UInt8 := [180, 1, 70, 162, 0, 24, 42, 180, 0, 56, 27, 182, 1, 73, 16, 254, 160, 0, 5, 27, 172, 132, 1, 1]
abbrev dktX1_judge_1 : List UInt8 := dkwX1_judge_1 ++ dktX1_judge_2
def dkwX1_judge_0 : List UInt8 := [42, 182, 0, 93, 42, 180, 0, 118, 199, 0, 9, 42, 4, 182, 0, 107, 172, 3, 60, 27, 42, 180, 0, 118]
abbrev dktX1_judge_0 : List UInt8 := dkwX1_judge_0 ++ dktX1_judge_1
theorem dksX1_judge_0 : cX1_judge.data.toList.drop 0 = dktX1_judge_0 := by decide +kernel
theorem dksX1_judge_1 : cX1_judge.data.toList.drop 24 = dktX1_judge_1 := dk_seg dksX1_judge_0 24 rfl rfl
theorem dksX1_judge_2 : cX1_judge.data.toList.drop 48 = dktX1_judge_2 := dk_seg dksX1_judge_1 24 rfl rfl
theorem dX1_judge_0 : decode cX1_judge 0 = .ok (.aload_n 0, 1) := dk_42 (dk_at dksX1_judge_0 0 rfl rfl)
theorem dX1_judge_1 : decode cX1_judge 1 = .ok (.invokevirtual 93, 3) := dk_182 0 93 (dk_at dksX1_judge_0 1 rfl rfl)
theorem dX1_judge_4 : decode cX1_judge 4 = .ok (.aload_n 0, 1) := dk_42 (dk_at dksX1_judge_0 4 rfl rfl)
theorem dX1_judge_5 : decode cX1_judge 5 = .ok (.getfield 118, 3) := dk_180 0 118 (dk_at dksX1_judge_0 5 rfl rfl)
theorem dX1_judge_8 : decode cX1_judge 8 = .ok (.ifnonnull 9, 3) := dk_199 0 9 (dk_at dksX1_judge_0 8 rfl rfl)
theorem dX1_judge_11 : decode cX1_judge 11 = .ok (.aload_n 0, 1) := dk_42 (dk_at dksX1_judge_0 11 rfl rfl)
theorem dX1_judge_12 : decode cX1_judge 12 = .ok (.iconst 1, 1) := dk_4 (dk_at dksX1_judge_0 12 rfl rfl)
theorem dX1_judge_13 : decode cX1_judge 13 = .ok (.invokevirtual 107, 3) := dk_182 0 107 (dk_at dksX1_judge_0 13 rfl rfl)
theorem dX1_judge_16 : decode cX1_judge 16 = .ok (.ireturn, 1) := dk_172 (dk_at dksX1_judge_0 16 rfl rfl)
theorem dX1_judge_17 : decode cX1_judge 17 = .ok (.iconst 0, 1) := dk_3 (dk_at dksX1_judge_0 17 rfl rfl)
theorem dX1_judge_18 : decode cX1_judge 18 = .ok (.istore_n 1, 1) := dk_60 (dk_at dksX1_judge_0 18 rfl rfl)
theorem dX1_judge_19 : decode cX1_judge 19 = .ok (.iload_n 1, 1) := dk_27 (dk_at dksX1_judge_0 19 rfl rfl)
theorem dX1_judge_20 : decode cX1_judge 20 = .ok (.aload_n 0, 1) := dk_42 (dk_at dksX1_judge_0 20 rfl rfl)
theorem dX1_judge_21 : decode cX1_judge 21 = .ok (.getfield 118, 3) := dk_180 0 118 (dk_at dksX1_judge_0 21 rfl rfl)
theorem dX1_judge_24 : decode cX1_judge 24 = .ok (.getfield 326, 3) := dk_180 1 70 (dk_at dksX1_judge_1 0 rfl rfl)
theorem dX1_judge_27 : decode cX1_judge 27 = .ok (.if_icmp .ge 24, 3) := dk_162 0 24 (dk_at dksX1_judge_1 3 rfl rfl)
theorem dX1_judge_30 : decode cX1_judge 30 = .ok (.aload_n 0, 1) := dk_42 (dk_at dksX1_judge_1 6 rfl rfl)
theorem dX1_judge_31 : decode cX1_judge 31 = .ok (.getfield 56, 3) := dk_180 0 56 (dk_at dksX1_judge_1 7 rfl rfl)
theorem dX1_judge_34 : decode cX1_judge 34 = .ok (.iload_n 1, 1) := dk_27 (dk_at dksX1_judge_1 10 rfl rfl)
theorem dX1_judge_35 : decode cX1_judge 35 = .ok (.invokevirtual 329, 3) := dk_182 1 73 (dk_at dksX1_judge_1 11 rfl rfl)
theorem dX1_judge_38 : decode cX1_judge 38 = .ok (.bipush (-2), 2) := dk_16 254 (dk_at dksX1_judge_1 14 rfl rfl)
theorem dX1_judge_40 : decode cX1_judge 40 = .ok (.if_icmp .ne 5, 3) := dk_160 0 5 (dk_at dksX1_judge_1 16 rfl rfl)
theorem dX1_judge_43 : decode cX1_judge 43 = .ok (.iload_n 1, 1) := dk_27 (dk_at dksX1_judge_1 19 rfl rfl)
theorem dX1_judge_44 : decode cX1_judge 44 = .ok (.ireturn, 1) := dk_172 (dk_at dksX1_judge_1 20 rfl rfl)
theorem dX1_judge_45 : decode cX1_judge 45 = .ok (.iinc 1 1, 3) := dk_132 1 1 (dk_at dksX1_judge_1 21 rfl rfl)
theorem dX1_judge_48 : decode cX1_judge 48 = .ok (.goto (-29), 3) := dk_167 255 227 (dk_at dksX1_judge_2 0 rfl rfl)
theorem dX1_judge_51 : decode cX1_judge 51 = .ok (.bipush (-2), 2) := dk_16 254 (dk_at dksX1_judge_2 3 rfl rfl)
theorem dX1_judge_53 : decode cX1_judge 53 = .ok (.ireturn, 1) := dk_172 (dk_at dksX1_judge_2 5 rfl rfl)
abbrev cX1_planOver : ByteArray := prog_1_method_56_code
def yX1_planOver : MethodName := ⟨RX1, "planOver", "(Z)I"⟩
def dkwX1_planOver_1 : List UInt8 := [153, 0, 7, 6, 167, 0, 4, 5, 182, 1, 75, 172]
abbrev dktX1_planOver_1 : List UInt8 := dkwX1_planOver_1 ++ []
def dkwX1_planOver_0 : List UInt8 := [42, 182, 0, 93, 42, 180, 0, 118, 199, 0, 11, 42, 4, 182, 0, 107, 167, 0, 19, 42, 180, 0, 56, 27]
abbrev dktX1_planOver_0 : List UInt8 := dkwX1_planOver_0 ++ dktX1_planOver_1
theorem dksX1_planOver_0 : cX1_planOver.data.toList.drop 0 = dktX1_planOver_0 := by decide +kernel
theorem dksX1_planOver_1 : cX1_planOver.data.toList.drop 24 = dktX1_planOver_1 := dk_seg dksX1_planOver_0 24 rfl rfl
theorem dX1_planOver_0 : decode cX1_planOver 0 = .ok (.aload_n 0, 1) := dk_42 (dk_at dksX1_planOver_0 0 rfl rfl)
theorem dX1_planOver_1 : decode cX1_planOver 1 = .ok (.invokevirtual 93, 3) := dk_182 0 93 (dk_at dksX1_planOver_0 1 rfl rfl)
theorem dX1_planOver_4 : decode cX1_planOver 4 = .ok (.aload_n 0, 1) := dk_42 (dk_at dksX1_planOver_0 4 rfl rfl)
theorem dX1_planOver_5 : decode cX1_planOver 5 = .ok (.getfield 118, 3) := dk_180 0 118 (dk_at dksX1_planOver_0 5 rfl rfl)
theorem dX1_planOver_8 : decode cX1_planOver 8 = .ok (.ifnonnull 11, 3) := dk_199 0 11 (dk_at dksX1_planOver_0 8 rfl rfl)
theorem dX1_planOver_11 : decode cX1_planOver 11 = .ok (.aload_n 0, 1) := dk_42 (dk_at dksX1_planOver_0 11 rfl rfl)
theorem dX1_planOver_12 : decode cX1_planOver 12 = .ok (.iconst 1, 1) := dk_4 (dk_at dksX1_planOver_0 12 rfl rfl)
theorem dX1_planOver_13 : decode cX1_planOver 13 = .ok (.invokevirtual 107, 3) := dk_182 0 107 (dk_at dksX1_planOver_0 13 rfl rfl)
theorem dX1_planOver_16 : decode cX1_planOver 16 = .ok (.goto 19, 3) := dk_167 0 19 (dk_at dksX1_planOver_0 16 rfl rfl)
theorem dX1_planOver_19 : decode cX1_planOver 19 = .ok (.aload_n 0, 1) := dk_42 (dk_at dksX1_planOver_0 19 rfl rfl)
theorem dX1_planOver_20 : decode cX1_planOver 20 = .ok (.getfield 56, 3) := dk_180 0 56 (dk_at dksX1_planOver_0 20 rfl rfl)
theorem dX1_planOver_23 : decode cX1_planOver 23 = .ok (.iload_n 1, 1) := dk_27 (dk_at dksX1_planOver_0 23 rfl rfl)
theorem dX1_planOver_24 : decode cX1_planOver 24 = .ok (.ifCond .eq 7, 3) := dk_153 0 7 (dk_at dksX1_planOver_1 0 rfl rfl)
theorem dX1_planOver_27 : decode cX1_planOver 27 = .ok (.iconst 3, 1) := dk_6 (dk_at dksX1_planOver_1 3 rfl rfl)
theorem dX1_planOver_28 : decode cX1_planOver 28 = .ok (.goto 4, 3) := dk_167 0 4 (dk_at dksX1_planOver_1 4 rfl rfl)
theorem dX1_planOver_31 : decode cX1_planOver 31 = .ok (.iconst 2, 1) := dk_5 (dk_at dksX1_planOver_1 7 rfl rfl)
theorem dX1_planOver_32 : decode cX1_planOver 32 = .ok (.invokevirtual 331, 3) := dk_182 1 75 (dk_at dksX1_planOver_1 8 rfl rfl)
theorem dX1_planOver_35 : decode cX1_planOver 35 = .ok (.ireturn, 1) := dk_172 (dk_at dksX1_planOver_1 11 rfl rfl)
abbrev cX1_fits : ByteArray := prog_1_method_57_code
def yX1_fits : MethodName := ⟨RX1, "fits", "()I"⟩
def dkwX1_fits_2 : List UInt8 := [180, 0, 66, 180, 1, 83, 172]
abbrev dktX1_fits_2 : List UInt8 := dkwX1_fits_2 ++ []
def dkwX1_fits_1 : List UInt8 := [154, 0, 10, 42, 16, 6, 182, 0, 107, 172, 42, 180, 0, 66, 42, 180, 0, 118, 182, 1, 81, 42]
abbrev dktX1_fits_1 : List UInt8 := dkwX1_fits_1 ++ dktX1_fits_2
def dkwX1_fits_0 : List UInt8 := [42, 182, 0, 93, 42, 180, 0, 118, 199, 0, 9, 42, 4, 182, 0, 107, 172, 42, 180, 0, 118, 180, 1, 78]
abbrev dktX1_fits_0 : List UInt8 := dkwX1_fits_0 ++ dktX1_fits_1
theorem dksX1_fits_0 : cX1_fits.data.toList.drop 0 = dktX1_fits_0 := by decide +kernel
theorem dksX1_fits_1 : cX1_fits.data.toList.drop 24 = dktX1_fits_1 := dk_seg dksX1_fits_0 24 rfl rfl
theorem dksX1_fits_2 : cX1_fits.data.toList.drop 46 = dktX1_fits_2 := dk_seg dksX1_fits_1 22 rfl rfl
theorem dX1_fits_0 : decode cX1_fits 0 = .ok (.aload_n 0, 1) := dk_42 (dk_at dksX1_fits_0 0 rfl rfl)
theorem dX1_fits_1 : decode cX1_fits 1 = .ok (.invokevirtual 93, 3) := dk_182 0 93 (dk_at dksX1_fits_0 1 rfl rfl)
theorem dX1_fits_4 : decode cX1_fits 4 = .ok (.aload_n 0, 1) := dk_42 (dk_at dksX1_fits_0 4 rfl rfl)
theorem dX1_fits_5 : decode cX1_fits 5 = .ok (.getfield 118, 3) := dk_180 0 118 (dk_at dksX1_fits_0 5 rfl rfl)
theorem dX1_fits_8 : decode cX1_fits 8 = .ok (.ifnonnull 9, 3) := dk_199 0 9 (dk_at dksX1_fits_0 8 rfl rfl)
theorem dX1_fits_11 : decode cX1_fits 11 = .ok (.aload_n 0, 1) := dk_42 (dk_at dksX1_fits_0 11 rfl rfl)
theorem dX1_fits_12 : decode cX1_fits 12 = .ok (.iconst 1, 1) := dk_4 (dk_at dksX1_fits_0 12 rfl rfl)
theorem dX1_fits_13 : decode cX1_fits 13 = .ok (.invokevirtual 107, 3) := dk_182 0 107 (dk_at dksX1_fits_0 13 rfl rfl)
theorem dX1_fits_16 : decode cX1_fits 16 = .ok (.ireturn, 1) := dk_172 (dk_at dksX1_fits_0 16 rfl rfl)
theorem dX1_fits_17 : decode cX1_fits 17 = .ok (.aload_n 0, 1) := dk_42 (dk_at dksX1_fits_0 17 rfl rfl)
theorem dX1_fits_18 : decode cX1_fits 18 = .ok (.getfield 118, 3) := dk_180 0 118 (dk_at dksX1_fits_0 18 rfl rfl)
theorem dX1_fits_21 : decode cX1_fits 21 = .ok (.getfield 334, 3) := dk_180 1 78 (dk_at dksX1_fits_0 21 rfl rfl)
theorem dX1_fits_24 : decode cX1_fits 24 = .ok (.ifCond .ne 10, 3) := dk_154 0 10 (dk_at dksX1_fits_1 0 rfl rfl)
theorem dX1_fits_27 : decode cX1_fits 27 = .ok (.aload_n 0, 1) := dk_42 (dk_at dksX1_fits_1 3 rfl rfl)
theorem dX1_fits_28 : decode cX1_fits 28 = .ok (.bipush 6, 2) := dk_16 6 (dk_at dksX1_fits_1 4 rfl rfl)
theorem dX1_fits_30 : decode cX1_fits 30 = .ok (.invokevirtual 107, 3) := dk_182 0 107 (dk_at dksX1_fits_1 6 rfl rfl)
theorem dX1_fits_33 : decode cX1_fits 33 = .ok (.ireturn, 1) := dk_172 (dk_at dksX1_fits_1 9 rfl rfl)
theorem dX1_fits_34 : decode cX1_fits 34 = .ok (.aload_n 0, 1) := dk_42 (dk_at dksX1_fits_1 10 rfl rfl)
theorem dX1_fits_35 : decode cX1_fits 35 = .ok (.getfield 66, 3) := dk_180 0 66 (dk_at dksX1_fits_1 11 rfl rfl)
theorem dX1_fits_38 : decode cX1_fits 38 = .ok (.aload_n 0, 1) := dk_42 (dk_at dksX1_fits_1 14 rfl rfl)
theorem dX1_fits_39 : decode cX1_fits 39 = .ok (.getfield 118, 3) := dk_180 0 118 (dk_at dksX1_fits_1 15 rfl rfl)
theorem dX1_fits_42 : decode cX1_fits 42 = .ok (.invokevirtual 337, 3) := dk_182 1 81 (dk_at dksX1_fits_1 18 rfl rfl)
theorem dX1_fits_45 : decode cX1_fits 45 = .ok (.aload_n 0, 1) := dk_42 (dk_at dksX1_fits_1 21 rfl rfl)
theorem dX1_fits_46 : decode cX1_fits 46 = .ok (.getfield 66, 3) := dk_180 0 66 (dk_at dksX1_fits_2 0 rfl rfl)
theorem dX1_fits_49 : decode cX1_fits 49 = .ok (.getfield 339, 3) := dk_180 1 83 (dk_at dksX1_fits_2 3 rfl rfl)
theorem dX1_fits_52 : decode cX1_fits 52 = .ok (.ireturn, 1) := dk_172 (dk_at dksX1_fits_2 6 rfl rfl)
abbrev cX1_could : ByteArray := prog_1_method_59_code
def yX1_could : MethodName := ⟨RX1, "could", "(I)I"⟩
def dkwX1_could_1 : List UInt8 := [4, 182, 0, 107, 172]
abbrev dktX1_could_1 : List UInt8 := dkwX1_could_1 ++ []
def dkwX1_could_0 : List UInt8 := [42, 182, 0, 93, 42, 27, 182, 1, 86, 153, 0, 14, 42, 180, 0, 66, 27, 182, 1, 89, 167, 0, 8, 42]
abbrev dktX1_could_0 : List UInt8 := dkwX1_could_0 ++ dktX1_could_1
theorem dksX1_could_0 : cX1_could.data.toList.drop 0 = dktX1_could_0 := by decide +kernel
theorem dksX1_could_1 : cX1_could.data.toList.drop 24 = dktX1_could_1 := dk_seg dksX1_could_0 24 rfl rfl
theorem dX1_could_0 : decode cX1_could 0 = .ok (.aload_n 0, 1) := dk_42 (dk_at dksX1_could_0 0 rfl rfl)
theorem dX1_could_1 : decode cX1_could 1 = .ok (.invokevirtual 93, 3) := dk_182 0 93 (dk_at dksX1_could_0 1 rfl rfl)
theorem dX1_could_4 : decode cX1_could 4 = .ok (.aload_n 0, 1) := dk_42 (dk_at dksX1_could_0 4 rfl rfl)
theorem dX1_could_5 : decode cX1_could 5 = .ok (.iload_n 1, 1) := dk_27 (dk_at dksX1_could_0 5 rfl rfl)
theorem dX1_could_6 : decode cX1_could 6 = .ok (.invokevirtual 342, 3) := dk_182 1 86 (dk_at dksX1_could_0 6 rfl rfl)
theorem dX1_could_9 : decode cX1_could 9 = .ok (.ifCond .eq 14, 3) := dk_153 0 14 (dk_at dksX1_could_0 9 rfl rfl)
theorem dX1_could_12 : decode cX1_could 12 = .ok (.aload_n 0, 1) := dk_42 (dk_at dksX1_could_0 12 rfl rfl)
theorem dX1_could_13 : decode cX1_could 13 = .ok (.getfield 66, 3) := dk_180 0 66 (dk_at dksX1_could_0 13 rfl rfl)
theorem dX1_could_16 : decode cX1_could 16 = .ok (.iload_n 1, 1) := dk_27 (dk_at dksX1_could_0 16 rfl rfl)
theorem dX1_could_17 : decode cX1_could 17 = .ok (.invokevirtual 345, 3) := dk_182 1 89 (dk_at dksX1_could_0 17 rfl rfl)
theorem dX1_could_20 : decode cX1_could 20 = .ok (.goto 8, 3) := dk_167 0 8 (dk_at dksX1_could_0 20 rfl rfl)
theorem dX1_could_23 : decode cX1_could 23 = .ok (.aload_n 0, 1) := dk_42 (dk_at dksX1_could_0 23 rfl rfl)
theorem dX1_could_24 : decode cX1_could 24 = .ok (.iconst 1, 1) := dk_4 (dk_at dksX1_could_1 0 rfl rfl)
theorem dX1_could_25 : decode cX1_could 25 = .ok (.invokevirtual 107, 3) := dk_182 0 107 (dk_at dksX1_could_1 1 rfl rfl)
theorem dX1_could_28 : decode cX1_could 28 = .ok (.ireturn, 1) := dk_172 (dk_at dksX1_could_1 4 rfl rfl)
abbrev cX1_isCrumb : ByteArray := prog_1_method_58_code
def yX1_isCrumb : MethodName := ⟨RX1, "isCrumb", "(I)Z"⟩
def dkwX1_isCrumb_1 : List UInt8 := [3, 172, 42, 180, 0, 66, 42, 180, 0, 118, 182, 1, 81, 4, 172]
abbrev dktX1_isCrumb_1 : List UInt8 := dkwX1_isCrumb_1 ++ []
def dkwX1_isCrumb_0 : List UInt8 := [42, 180, 0, 118, 198, 0, 20, 27, 3, 42, 180, 0, 118, 180, 1, 78, 4, 100, 184, 0, 103, 154, 0, 5]
abbrev dktX1_isCrumb_0 : List UInt8 := dkwX1_isCrumb_0 ++ dktX1_isCrumb_1
theorem dksX1_isCrumb_0 : cX1_isCrumb.data.toList.drop 0 = dktX1_isCrumb_0 := by decide +kernel
theorem dksX1_isCrumb_1 : cX1_isCrumb.data.toList.drop 24 = dktX1_isCrumb_1 := dk_seg dksX1_isCrumb_0 24 rfl rfl
theorem dX1_isCrumb_0 : decode cX1_isCrumb 0 = .ok (.aload_n 0, 1) := dk_42 (dk_at dksX1_isCrumb_0 0 rfl rfl)
theorem dX1_isCrumb_1 : decode cX1_isCrumb 1 = .ok (.getfield 118, 3) := dk_180 0 118 (dk_at dksX1_isCrumb_0 1 rfl rfl)
theorem dX1_isCrumb_4 : decode cX1_isCrumb 4 = .ok (.ifnull 20, 3) := dk_198 0 20 (dk_at dksX1_isCrumb_0 4 rfl rfl)
theorem dX1_isCrumb_7 : decode cX1_isCrumb 7 = .ok (.iload_n 1, 1) := dk_27 (dk_at dksX1_isCrumb_0 7 rfl rfl)
theorem dX1_isCrumb_8 : decode cX1_isCrumb 8 = .ok (.iconst 0, 1) := dk_3 (dk_at dksX1_isCrumb_0 8 rfl rfl)
theorem dX1_isCrumb_9 : decode cX1_isCrumb 9 = .ok (.aload_n 0, 1) := dk_42 (dk_at dksX1_isCrumb_0 9 rfl rfl)
theorem dX1_isCrumb_10 : decode cX1_isCrumb 10 = .ok (.getfield 118, 3) := dk_180 0 118 (dk_at dksX1_isCrumb_0 10 rfl rfl)
theorem dX1_isCrumb_13 : decode cX1_isCrumb 13 = .ok (.getfield 334, 3) := dk_180 1 78 (dk_at dksX1_isCrumb_0 13 rfl rfl)
theorem dX1_isCrumb_16 : decode cX1_isCrumb 16 = .ok (.iconst 1, 1) := dk_4 (dk_at dksX1_isCrumb_0 16 rfl rfl)
theorem dX1_isCrumb_17 : decode cX1_isCrumb 17 = .ok (.isub, 1) := dk_100 (dk_at dksX1_isCrumb_0 17 rfl rfl)
theorem dX1_isCrumb_18 : decode cX1_isCrumb 18 = .ok (.invokestatic 103, 3) := dk_184 0 103 (dk_at dksX1_isCrumb_0 18 rfl rfl)
theorem dX1_isCrumb_21 : decode cX1_isCrumb 21 = .ok (.ifCond .ne 5, 3) := dk_154 0 5 (dk_at dksX1_isCrumb_0 21 rfl rfl)
theorem dX1_isCrumb_24 : decode cX1_isCrumb 24 = .ok (.iconst 0, 1) := dk_3 (dk_at dksX1_isCrumb_1 0 rfl rfl)
theorem dX1_isCrumb_25 : decode cX1_isCrumb 25 = .ok (.ireturn, 1) := dk_172 (dk_at dksX1_isCrumb_1 1 rfl rfl)
theorem dX1_isCrumb_26 : decode cX1_isCrumb 26 = .ok (.aload_n 0, 1) := dk_42 (dk_at dksX1_isCrumb_1 2 rfl rfl)
theorem dX1_isCrumb_27 : decode cX1_isCrumb 27 = .ok (.getfield 66, 3) := dk_180 0 66 (dk_at dksX1_isCrumb_1 3 rfl rfl)
theorem dX1_isCrumb_30 : decode cX1_isCrumb 30 = .ok (.aload_n 0, 1) := dk_42 (dk_at dksX1_isCrumb_1 6 rfl rfl)
theorem dX1_isCrumb_31 : decode cX1_isCrumb 31 = .ok (.getfield 118, 3) := dk_180 0 118 (dk_at dksX1_isCrumb_1 7 rfl rfl)
theorem dX1_isCrumb_34 : decode cX1_isCrumb 34 = .ok (.invokevirtual 337, 3) := dk_182 1 81 (dk_at dksX1_isCrumb_1 10 rfl rfl)
theorem dX1_isCrumb_37 : decode cX1_isCrumb 37 = .ok (.iconst 1, 1) := dk_4 (dk_at dksX1_isCrumb_1 13 rfl rfl)
theorem dX1_isCrumb_38 : decode cX1_isCrumb 38 = .ok (.ireturn, 1) := dk_172 (dk_at dksX1_isCrumb_1 14 rfl rfl)
abbrev cX1_surely : ByteArray := prog_1_method_60_code
def yX1_surely : MethodName := ⟨RX1, "surely", "(I)I"⟩
def dkwX1_surely_1 : List UInt8 := [4, 182, 0, 107, 172]
abbrev dktX1_surely_1 : List UInt8 := dkwX1_surely_1 ++ []
def dkwX1_surely_0 : List UInt8 := [42, 182, 0, 93, 42, 27, 182, 1, 86, 153, 0, 14, 42, 180, 0, 66, 27, 182, 1, 92, 167, 0, 8, 42]
abbrev dktX1_surely_0 : List UInt8 := dkwX1_surely_0 ++ dktX1_surely_1
theorem dksX1_surely_0 : cX1_surely.data.toList.drop 0 = dktX1_surely_0 := by decide +kernel
theorem dksX1_surely_1 : cX1_surely.data.toList.drop 24 = dktX1_surely_1 := dk_seg dksX1_surely_0 24 rfl rfl
theorem dX1_surely_0 : decode cX1_surely 0 = .ok (.aload_n 0, 1) := dk_42 (dk_at dksX1_surely_0 0 rfl rfl)
theorem dX1_surely_1 : decode cX1_surely 1 = .ok (.invokevirtual 93, 3) := dk_182 0 93 (dk_at dksX1_surely_0 1 rfl rfl)
theorem dX1_surely_4 : decode cX1_surely 4 = .ok (.aload_n 0, 1) := dk_42 (dk_at dksX1_surely_0 4 rfl rfl)
theorem dX1_surely_5 : decode cX1_surely 5 = .ok (.iload_n 1, 1) := dk_27 (dk_at dksX1_surely_0 5 rfl rfl)
theorem dX1_surely_6 : decode cX1_surely 6 = .ok (.invokevirtual 342, 3) := dk_182 1 86 (dk_at dksX1_surely_0 6 rfl rfl)
theorem dX1_surely_9 : decode cX1_surely 9 = .ok (.ifCond .eq 14, 3) := dk_153 0 14 (dk_at dksX1_surely_0 9 rfl rfl)
theorem dX1_surely_12 : decode cX1_surely 12 = .ok (.aload_n 0, 1) := dk_42 (dk_at dksX1_surely_0 12 rfl rfl)
theorem dX1_surely_13 : decode cX1_surely 13 = .ok (.getfield 66, 3) := dk_180 0 66 (dk_at dksX1_surely_0 13 rfl rfl)
theorem dX1_surely_16 : decode cX1_surely 16 = .ok (.iload_n 1, 1) := dk_27 (dk_at dksX1_surely_0 16 rfl rfl)
theorem dX1_surely_17 : decode cX1_surely 17 = .ok (.invokevirtual 348, 3) := dk_182 1 92 (dk_at dksX1_surely_0 17 rfl rfl)
theorem dX1_surely_20 : decode cX1_surely 20 = .ok (.goto 8, 3) := dk_167 0 8 (dk_at dksX1_surely_0 20 rfl rfl)
theorem dX1_surely_23 : decode cX1_surely 23 = .ok (.aload_n 0, 1) := dk_42 (dk_at dksX1_surely_0 23 rfl rfl)
theorem dX1_surely_24 : decode cX1_surely 24 = .ok (.iconst 1, 1) := dk_4 (dk_at dksX1_surely_1 0 rfl rfl)
theorem dX1_surely_25 : decode cX1_surely 25 = .ok (.invokevirtual 107, 3) := dk_182 0 107 (dk_at dksX1_surely_1 1 rfl rfl)
theorem dX1_surely_28 : decode cX1_surely 28 = .ok (.ireturn, 1) := dk_172 (dk_at dksX1_surely_1 4 rfl rfl)
abbrev cX1_owed : ByteArray := prog_1_method_61_code
def yX1_owed : MethodName := ⟨RX1, "owed", "(IIZ)J"⟩
def dkwX1_owed_4 : List UInt8 := [153, 0, 8, 22, 6, 167, 0, 5, 22, 4, 22, 6, 22, 4, 184, 0, 1, 109, 173]
abbrev dktX1_owed_4 : List UInt8 := dkwX1_owed_4 ++ []
def dkwX1_owed_3 : List UInt8 := [180, 1, 95, 96, 133, 105, 55, 4, 22, 6, 20, 1, 98, 105, 55, 6, 132, 8, 1, 167, 255, 223, 29]
abbrev dktX1_owed_3 : List UInt8 := dkwX1_owed_3 ++ dktX1_owed_4
def dkwX1_owed_2 : List UInt8 := [55, 4, 10, 55, 6, 3, 54, 8, 21, 8, 28, 162, 0, 33, 22, 4, 16, 100, 42, 180, 0, 118]
abbrev dktX1_owed_2 : List UInt8 := dkwX1_owed_2 ++ dktX1_owed_3
def dkwX1_owed_1 : List UInt8 := [184, 0, 103, 153, 0, 12, 28, 3, 8, 184, 0, 103, 154, 0, 10, 42, 5, 182, 0, 107, 133, 173, 27, 133]
abbrev dktX1_owed_1 : List UInt8 := dkwX1_owed_1 ++ dktX1_owed_2
def dkwX1_owed_0 : List UInt8 := [42, 182, 0, 93, 42, 180, 0, 118, 199, 0, 10, 42, 4, 182, 0, 107, 133, 173, 27, 3, 17, 3, 231]
abbrev dktX1_owed_0 : List UInt8 := dkwX1_owed_0 ++ dktX1_owed_1
theorem dksX1_owed_0 : cX1_owed.data.toList.drop 0 = dktX1_owed_0 := by decide +kernel
theorem dksX1_owed_1 : cX1_owed.data.toList.drop 23 = dktX1_owed_1 := dk_seg dksX1_owed_0 23 rfl rfl
theorem dksX1_owed_2 : cX1_owed.data.toList.drop 47 = dktX1_owed_2 := dk_seg dksX1_owed_1 24 rfl rfl
theorem dksX1_owed_3 : cX1_owed.data.toList.drop 69 = dktX1_owed_3 := dk_seg dksX1_owed_2 22 rfl rfl
theorem dksX1_owed_4 : cX1_owed.data.toList.drop 92 = dktX1_owed_4 := dk_seg dksX1_owed_3 23 rfl rfl
theorem dX1_owed_0 : decode cX1_owed 0 = .ok (.aload_n 0, 1) := dk_42 (dk_at dksX1_owed_0 0 rfl rfl)
theorem dX1_owed_1 : decode cX1_owed 1 = .ok (.invokevirtual 93, 3) := dk_182 0 93 (dk_at dksX1_owed_0 1 rfl rfl)
theorem dX1_owed_4 : decode cX1_owed 4 = .ok (.aload_n 0, 1) := dk_42 (dk_at dksX1_owed_0 4 rfl rfl)
theorem dX1_owed_5 : decode cX1_owed 5 = .ok (.getfield 118, 3) := dk_180 0 118 (dk_at dksX1_owed_0 5 rfl rfl)
theorem dX1_owed_8 : decode cX1_owed 8 = .ok (.ifnonnull 10, 3) := dk_199 0 10 (dk_at dksX1_owed_0 8 rfl rfl)
theorem dX1_owed_11 : decode cX1_owed 11 = .ok (.aload_n 0, 1) := dk_42 (dk_at dksX1_owed_0 11 rfl rfl)
theorem dX1_owed_12 : decode cX1_owed 12 = .ok (.iconst 1, 1) := dk_4 (dk_at dksX1_owed_0 12 rfl rfl)
theorem dX1_owed_13 : decode cX1_owed 13 = .ok (.invokevirtual 107, 3) := dk_182 0 107 (dk_at dksX1_owed_0 13 rfl rfl)
theorem dX1_owed_16 : decode cX1_owed 16 = .ok (.i2l, 1) := dk_133 (dk_at dksX1_owed_0 16 rfl rfl)
theorem dX1_owed_17 : decode cX1_owed 17 = .ok (.lreturn, 1) := dk_173 (dk_at dksX1_owed_0 17 rfl rfl)
theorem dX1_owed_18 : decode cX1_owed 18 = .ok (.iload_n 1, 1) := dk_27 (dk_at dksX1_owed_0 18 rfl rfl)
theorem dX1_owed_19 : decode cX1_owed 19 = .ok (.iconst 0, 1) := dk_3 (dk_at dksX1_owed_0 19 rfl rfl)
theorem dX1_owed_20 : decode cX1_owed 20 = .ok (.sipush 999, 3) := dk_17 3 231 (dk_at dksX1_owed_0 20 rfl rfl)
theorem dX1_owed_23 : decode cX1_owed 23 = .ok (.invokestatic 103, 3) := dk_184 0 103 (dk_at dksX1_owed_1 0 rfl rfl)
theorem dX1_owed_26 : decode cX1_owed 26 = .ok (.ifCond .eq 12, 3) := dk_153 0 12 (dk_at dksX1_owed_1 3 rfl rfl)
theorem dX1_owed_29 : decode cX1_owed 29 = .ok (.iload_n 2, 1) := dk_28 (dk_at dksX1_owed_1 6 rfl rfl)
theorem dX1_owed_30 : decode cX1_owed 30 = .ok (.iconst 0, 1) := dk_3 (dk_at dksX1_owed_1 7 rfl rfl)
theorem dX1_owed_31 : decode cX1_owed 31 = .ok (.iconst 5, 1) := dk_8 (dk_at dksX1_owed_1 8 rfl rfl)
theorem dX1_owed_32 : decode cX1_owed 32 = .ok (.invokestatic 103, 3) := dk_184 0 103 (dk_at dksX1_owed_1 9 rfl rfl)
theorem dX1_owed_35 : decode cX1_owed 35 = .ok (.ifCond .ne 10, 3) := dk_154 0 10 (dk_at dksX1_owed_1 12 rfl rfl)
theorem dX1_owed_38 : decode cX1_owed 38 = .ok (.aload_n 0, 1) := dk_42 (dk_at dksX1_owed_1 15 rfl rfl)
theorem dX1_owed_39 : decode cX1_owed 39 = .ok (.iconst 2, 1) := dk_5 (dk_at dksX1_owed_1 16 rfl rfl)
theorem dX1_owed_40 : decode cX1_owed 40 = .ok (.invokevirtual 107, 3) := dk_182 0 107 (dk_at dksX1_owed_1 17 rfl rfl)
theorem dX1_owed_43 : decode cX1_owed 43 = .ok (.i2l, 1) := dk_133 (dk_at dksX1_owed_1 20 rfl rfl)
theorem dX1_owed_44 : decode cX1_owed 44 = .ok (.lreturn, 1) := dk_173 (dk_at dksX1_owed_1 21 rfl rfl)
theorem dX1_owed_45 : decode cX1_owed 45 = .ok (.iload_n 1, 1) := dk_27 (dk_at dksX1_owed_1 22 rfl rfl)
theorem dX1_owed_46 : decode cX1_owed 46 = .ok (.i2l, 1) := dk_133 (dk_at dksX1_owed_1 23 rfl rfl)
theorem dX1_owed_47 : decode cX1_owed 47 = .ok (.lstore 4, 2) := dk_55 4 (dk_at dksX1_owed_2 0 rfl rfl)
theorem dX1_owed_49 : decode cX1_owed 49 = .ok (.lconst 1, 1) := dk_10 (dk_at dksX1_owed_2 2 rfl rfl)
theorem dX1_owed_50 : decode cX1_owed 50 = .ok (.lstore 6, 2) := dk_55 6 (dk_at dksX1_owed_2 3 rfl rfl)
theorem dX1_owed_52 : decode cX1_owed 52 = .ok (.iconst 0, 1) := dk_3 (dk_at dksX1_owed_2 5 rfl rfl)
theorem dX1_owed_53 : decode cX1_owed 53 = .ok (.istore 8, 2) := dk_54 8 (dk_at dksX1_owed_2 6 rfl rfl)
theorem dX1_owed_55 : decode cX1_owed 55 = .ok (.iload 8, 2) := dk_21 8 (dk_at dksX1_owed_2 8 rfl rfl)
theorem dX1_owed_57 : decode cX1_owed 57 = .ok (.iload_n 2, 1) := dk_28 (dk_at dksX1_owed_2 10 rfl rfl)
theorem dX1_owed_58 : decode cX1_owed 58 = .ok (.if_icmp .ge 33, 3) := dk_162 0 33 (dk_at dksX1_owed_2 11 rfl rfl)
theorem dX1_owed_61 : decode cX1_owed 61 = .ok (.lload 4, 2) := dk_22 4 (dk_at dksX1_owed_2 14 rfl rfl)
theorem dX1_owed_63 : decode cX1_owed 63 = .ok (.bipush 100, 2) := dk_16 100 (dk_at dksX1_owed_2 16 rfl rfl)
theorem dX1_owed_65 : decode cX1_owed 65 = .ok (.aload_n 0, 1) := dk_42 (dk_at dksX1_owed_2 18 rfl rfl)
theorem dX1_owed_66 : decode cX1_owed 66 = .ok (.getfield 118, 3) := dk_180 0 118 (dk_at dksX1_owed_2 19 rfl rfl)
theorem dX1_owed_69 : decode cX1_owed 69 = .ok (.getfield 351, 3) := dk_180 1 95 (dk_at dksX1_owed_3 0 rfl rfl)
theorem dX1_owed_72 : decode cX1_owed 72 = .ok (.iadd, 1) := dk_96 (dk_at dksX1_owed_3 3 rfl rfl)
theorem dX1_owed_73 : decode cX1_owed 73 = .ok (.i2l, 1) := dk_133 (dk_at dksX1_owed_3 4 rfl rfl)
theorem dX1_owed_74 : decode cX1_owed 74 = .ok (.lmul, 1) := dk_105 (dk_at dksX1_owed_3 5 rfl rfl)
theorem dX1_owed_75 : decode cX1_owed 75 = .ok (.lstore 4, 2) := dk_55 4 (dk_at dksX1_owed_3 6 rfl rfl)
theorem dX1_owed_77 : decode cX1_owed 77 = .ok (.lload 6, 2) := dk_22 6 (dk_at dksX1_owed_3 8 rfl rfl)
theorem dX1_owed_79 : decode cX1_owed 79 = .ok (.ldc2_w 354, 3) := dk_20 1 98 (dk_at dksX1_owed_3 10 rfl rfl)
theorem dX1_owed_82 : decode cX1_owed 82 = .ok (.lmul, 1) := dk_105 (dk_at dksX1_owed_3 13 rfl rfl)
theorem dX1_owed_83 : decode cX1_owed 83 = .ok (.lstore 6, 2) := dk_55 6 (dk_at dksX1_owed_3 14 rfl rfl)
theorem dX1_owed_85 : decode cX1_owed 85 = .ok (.iinc 8 1, 3) := dk_132 8 1 (dk_at dksX1_owed_3 16 rfl rfl)
theorem dX1_owed_88 : decode cX1_owed 88 = .ok (.goto (-33), 3) := dk_167 255 223 (dk_at dksX1_owed_3 19 rfl rfl)
theorem dX1_owed_91 : decode cX1_owed 91 = .ok (.iload_n 3, 1) := dk_29 (dk_at dksX1_owed_3 22 rfl rfl)
theorem dX1_owed_92 : decode cX1_owed 92 = .ok (.ifCond .eq 8, 3) := dk_153 0 8 (dk_at dksX1_owed_4 0 rfl rfl)
theorem dX1_owed_95 : decode cX1_owed 95 = .ok (.lload 6, 2) := dk_22 6 (dk_at dksX1_owed_4 3 rfl rfl)
theorem dX1_owed_97 : decode cX1_owed 97 = .ok (.goto 5, 3) := dk_167 0 5 (dk_at dksX1_owed_4 5 rfl rfl)
theorem dX1_owed_100 : decode cX1_owed 100 = .ok (.lload 4, 2) := dk_22 4 (dk_at dksX1_owed_4 8 rfl rfl)
theorem dX1_owed_102 : decode cX1_owed 102 = .ok (.lload 6, 2) := dk_22 6 (dk_at dksX1_owed_4 10 rfl rfl)
theorem dX1_owed_104 : decode cX1_owed 104 = .ok (.lload 4, 2) := dk_22 4 (dk_at dksX1_owed_4 12 rfl rfl)
theorem dX1_owed_106 : decode cX1_owed 106 = .ok (.invokestatic 1, 3) := dk_184 0 1 (dk_at dksX1_owed_4 14 rfl rfl)
theorem dX1_owed_109 : decode cX1_owed 109 = .ok (.ldiv, 1) := dk_109 (dk_at dksX1_owed_4 17 rfl rfl)
theorem dX1_owed_110 : decode cX1_owed 110 = .ok (.lreturn, 1) := dk_173 (dk_at dksX1_owed_4 18 rfl rfl)
abbrev cX1_dividing : ByteArray := prog_1_method_4_code
def yX1_dividing : MethodName := ⟨RX1, "dividing", "(JJ)J"⟩
def dkwX1_dividing_0 : List UInt8 := [32, 9, 148, 154, 0, 7, 30, 167, 0, 10, 32, 30, 32, 113, 184, 0, 1, 173]
abbrev dktX1_dividing_0 : List UInt8 := dkwX1_dividing_0 ++ []
theorem dksX1_dividing_0 : cX1_dividing.data.toList.drop 0 = dktX1_dividing_0 := by decide +kernel
theorem dX1_dividing_0 : decode cX1_dividing 0 = .ok (.lload_n 2, 1) := dk_32 (dk_at dksX1_dividing_0 0 rfl rfl)
theorem dX1_dividing_1 : decode cX1_dividing 1 = .ok (.lconst 0, 1) := dk_9 (dk_at dksX1_dividing_0 1 rfl rfl)
theorem dX1_dividing_2 : decode cX1_dividing 2 = .ok (.lcmp, 1) := dk_148 (dk_at dksX1_dividing_0 2 rfl rfl)
theorem dX1_dividing_3 : decode cX1_dividing 3 = .ok (.ifCond .ne 7, 3) := dk_154 0 7 (dk_at dksX1_dividing_0 3 rfl rfl)
theorem dX1_dividing_6 : decode cX1_dividing 6 = .ok (.lload_n 0, 1) := dk_30 (dk_at dksX1_dividing_0 6 rfl rfl)
theorem dX1_dividing_7 : decode cX1_dividing 7 = .ok (.goto 10, 3) := dk_167 0 10 (dk_at dksX1_dividing_0 7 rfl rfl)
theorem dX1_dividing_10 : decode cX1_dividing 10 = .ok (.lload_n 2, 1) := dk_32 (dk_at dksX1_dividing_0 10 rfl rfl)
theorem dX1_dividing_11 : decode cX1_dividing 11 = .ok (.lload_n 0, 1) := dk_30 (dk_at dksX1_dividing_0 11 rfl rfl)
theorem dX1_dividing_12 : decode cX1_dividing 12 = .ok (.lload_n 2, 1) := dk_32 (dk_at dksX1_dividing_0 12 rfl rfl)
theorem dX1_dividing_13 : decode cX1_dividing 13 = .ok (.lrem, 1) := dk_113 (dk_at dksX1_dividing_0 13 rfl rfl)
theorem dX1_dividing_14 : decode cX1_dividing 14 = .ok (.invokestatic 1, 3) := dk_184 0 1 (dk_at dksX1_dividing_0 14 rfl rfl)
theorem dX1_dividing_17 : decode cX1_dividing 17 = .ok (.lreturn, 1) := dk_173 (dk_at dksX1_dividing_0 17 rfl rfl)
abbrev cX1_season : ByteArray := prog_1_method_62_code
def yX1_season : MethodName := ⟨RX1, "season", "(I)I"⟩
def dkwX1_season_2 : List UInt8 := [4, 27, 182, 0, 132, 87, 42, 180, 0, 60, 182, 1, 101, 172]
abbrev dktX1_season_2 : List UInt8 := dkwX1_season_2 ++ []
def dkwX1_season_1 : List UInt8 := [184, 0, 103, 154, 0, 9, 42, 5, 182, 0, 107, 172, 42, 180, 0, 60, 42, 180, 0, 118, 42, 180, 0, 43]
abbrev dktX1_season_1 : List UInt8 := dkwX1_season_1 ++ dktX1_season_2
def dkwX1_season_0 : List UInt8 := [42, 182, 0, 93, 42, 180, 0, 118, 199, 0, 9, 42, 4, 182, 0, 107, 172, 27, 3, 19, 1, 100]
abbrev dktX1_season_0 : List UInt8 := dkwX1_season_0 ++ dktX1_season_1
theorem dksX1_season_0 : cX1_season.data.toList.drop 0 = dktX1_season_0 := by decide +kernel
theorem dksX1_season_1 : cX1_season.data.toList.drop 22 = dktX1_season_1 := dk_seg dksX1_season_0 22 rfl rfl
theorem dksX1_season_2 : cX1_season.data.toList.drop 46 = dktX1_season_2 := dk_seg dksX1_season_1 24 rfl rfl
theorem dX1_season_0 : decode cX1_season 0 = .ok (.aload_n 0, 1) := dk_42 (dk_at dksX1_season_0 0 rfl rfl)
theorem dX1_season_1 : decode cX1_season 1 = .ok (.invokevirtual 93, 3) := dk_182 0 93 (dk_at dksX1_season_0 1 rfl rfl)
theorem dX1_season_4 : decode cX1_season 4 = .ok (.aload_n 0, 1) := dk_42 (dk_at dksX1_season_0 4 rfl rfl)
theorem dX1_season_5 : decode cX1_season 5 = .ok (.getfield 118, 3) := dk_180 0 118 (dk_at dksX1_season_0 5 rfl rfl)
theorem dX1_season_8 : decode cX1_season 8 = .ok (.ifnonnull 9, 3) := dk_199 0 9 (dk_at dksX1_season_0 8 rfl rfl)
theorem dX1_season_11 : decode cX1_season 11 = .ok (.aload_n 0, 1) := dk_42 (dk_at dksX1_season_0 11 rfl rfl)
theorem dX1_season_12 : decode cX1_season 12 = .ok (.iconst 1, 1) := dk_4 (dk_at dksX1_season_0 12 rfl rfl)
theorem dX1_season_13 : decode cX1_season 13 = .ok (.invokevirtual 107, 3) := dk_182 0 107 (dk_at dksX1_season_0 13 rfl rfl)
theorem dX1_season_16 : decode cX1_season 16 = .ok (.ireturn, 1) := dk_172 (dk_at dksX1_season_0 16 rfl rfl)
theorem dX1_season_17 : decode cX1_season 17 = .ok (.iload_n 1, 1) := dk_27 (dk_at dksX1_season_0 17 rfl rfl)
theorem dX1_season_18 : decode cX1_season 18 = .ok (.iconst 0, 1) := dk_3 (dk_at dksX1_season_0 18 rfl rfl)
theorem dX1_season_19 : decode cX1_season 19 = .ok (.ldc_w 356, 3) := dk_19 1 100 (dk_at dksX1_season_0 19 rfl rfl)
theorem dX1_season_22 : decode cX1_season 22 = .ok (.invokestatic 103, 3) := dk_184 0 103 (dk_at dksX1_season_1 0 rfl rfl)
theorem dX1_season_25 : decode cX1_season 25 = .ok (.ifCond .ne 9, 3) := dk_154 0 9 (dk_at dksX1_season_1 3 rfl rfl)
theorem dX1_season_28 : decode cX1_season 28 = .ok (.aload_n 0, 1) := dk_42 (dk_at dksX1_season_1 6 rfl rfl)
theorem dX1_season_29 : decode cX1_season 29 = .ok (.iconst 2, 1) := dk_5 (dk_at dksX1_season_1 7 rfl rfl)
theorem dX1_season_30 : decode cX1_season 30 = .ok (.invokevirtual 107, 3) := dk_182 0 107 (dk_at dksX1_season_1 8 rfl rfl)
theorem dX1_season_33 : decode cX1_season 33 = .ok (.ireturn, 1) := dk_172 (dk_at dksX1_season_1 11 rfl rfl)
theorem dX1_season_34 : decode cX1_season 34 = .ok (.aload_n 0, 1) := dk_42 (dk_at dksX1_season_1 12 rfl rfl)
theorem dX1_season_35 : decode cX1_season 35 = .ok (.getfield 60, 3) := dk_180 0 60 (dk_at dksX1_season_1 13 rfl rfl)
theorem dX1_season_38 : decode cX1_season 38 = .ok (.aload_n 0, 1) := dk_42 (dk_at dksX1_season_1 16 rfl rfl)
theorem dX1_season_39 : decode cX1_season 39 = .ok (.getfield 118, 3) := dk_180 0 118 (dk_at dksX1_season_1 17 rfl rfl)
theorem dX1_season_42 : decode cX1_season 42 = .ok (.aload_n 0, 1) := dk_42 (dk_at dksX1_season_1 20 rfl rfl)
theorem dX1_season_43 : decode cX1_season 43 = .ok (.getfield 43, 3) := dk_180 0 43 (dk_at dksX1_season_1 21 rfl rfl)
theorem dX1_season_46 : decode cX1_season 46 = .ok (.iconst 1, 1) := dk_4 (dk_at dksX1_season_2 0 rfl rfl)
theorem dX1_season_47 : decode cX1_season 47 = .ok (.iload_n 1, 1) := dk_27 (dk_at dksX1_season_2 1 rfl rfl)
theorem dX1_season_48 : decode cX1_season 48 = .ok (.invokevirtual 132, 3) := dk_182 0 132 (dk_at dksX1_season_2 2 rfl rfl)
theorem dX1_season_51 : decode cX1_season 51 = .ok (.pop, 1) := dk_87 (dk_at dksX1_season_2 5 rfl rfl)
theorem dX1_season_52 : decode cX1_season 52 = .ok (.aload_n 0, 1) := dk_42 (dk_at dksX1_season_2 6 rfl rfl)
theorem dX1_season_53 : decode cX1_season 53 = .ok (.getfield 60, 3) := dk_180 0 60 (dk_at dksX1_season_2 7 rfl rfl)
theorem dX1_season_56 : decode cX1_season 56 = .ok (.invokevirtual 357, 3) := dk_182 1 101 (dk_at dksX1_season_2 10 rfl rfl)
theorem dX1_season_59 : decode cX1_season 59 = .ok (.ireturn, 1) := dk_172 (dk_at dksX1_season_2 13 rfl rfl)
abbrev cX1_seizedIn : ByteArray := prog_1_method_63_code
def yX1_seizedIn : MethodName := ⟨RX1, "seizedIn", "(III)I"⟩
def dkwX1_seizedIn_4 : List UInt8 := [184, 0, 189, 153, 0, 7, 4, 167, 0, 4, 3, 96, 54, 4, 132, 6, 1, 167, 255, 202, 21, 4, 172]
abbrev dktX1_seizedIn_4 : List UInt8 := dkwX1_seizedIn_4 ++ []
def dkwX1_seizedIn_3 : List UInt8 := [180, 0, 43, 4, 21, 5, 182, 0, 132, 54, 5, 21, 4, 42, 180, 0, 60, 6, 182, 1, 75, 27]
abbrev dktX1_seizedIn_3 : List UInt8 := dkwX1_seizedIn_3 ++ dktX1_seizedIn_4
def dkwX1_seizedIn_2 : List UInt8 := [54, 4, 28, 54, 5, 3, 54, 6, 21, 6, 29, 162, 0, 54, 42, 180, 0, 60, 42, 180, 0, 118, 42]
abbrev dktX1_seizedIn_2 : List UInt8 := dkwX1_seizedIn_2 ++ dktX1_seizedIn_3
def dkwX1_seizedIn_1 : List UInt8 := [184, 0, 103, 153, 0, 13, 29, 4, 16, 50, 184, 0, 103, 154, 0, 9, 42, 5, 182, 0, 107, 172, 3]
abbrev dktX1_seizedIn_1 : List UInt8 := dkwX1_seizedIn_1 ++ dktX1_seizedIn_2
def dkwX1_seizedIn_0 : List UInt8 := [42, 182, 0, 93, 42, 27, 182, 0, 153, 154, 0, 9, 42, 4, 182, 0, 107, 172, 28, 3, 19, 1, 100]
abbrev dktX1_seizedIn_0 : List UInt8 := dkwX1_seizedIn_0 ++ dktX1_seizedIn_1
theorem dksX1_seizedIn_0 : cX1_seizedIn.data.toList.drop 0 = dktX1_seizedIn_0 := by decide +kernel
theorem dksX1_seizedIn_1 : cX1_seizedIn.data.toList.drop 23 = dktX1_seizedIn_1 := dk_seg dksX1_seizedIn_0 23 rfl rfl
theorem dksX1_seizedIn_2 : cX1_seizedIn.data.toList.drop 46 = dktX1_seizedIn_2 := dk_seg dksX1_seizedIn_1 23 rfl rfl
theorem dksX1_seizedIn_3 : cX1_seizedIn.data.toList.drop 69 = dktX1_seizedIn_3 := dk_seg dksX1_seizedIn_2 23 rfl rfl
theorem dksX1_seizedIn_4 : cX1_seizedIn.data.toList.drop 91 = dktX1_seizedIn_4 := dk_seg dksX1_seizedIn_3 22 rfl rfl
theorem dX1_seizedIn_0 : decode cX1_seizedIn 0 = .ok (.aload_n 0, 1) := dk_42 (dk_at dksX1_seizedIn_0 0 rfl rfl)
theorem dX1_seizedIn_1 : decode cX1_seizedIn 1 = .ok (.invokevirtual 93, 3) := dk_182 0 93 (dk_at dksX1_seizedIn_0 1 rfl rfl)
theorem dX1_seizedIn_4 : decode cX1_seizedIn 4 = .ok (.aload_n 0, 1) := dk_42 (dk_at dksX1_seizedIn_0 4 rfl rfl)
theorem dX1_seizedIn_5 : decode cX1_seizedIn 5 = .ok (.iload_n 1, 1) := dk_27 (dk_at dksX1_seizedIn_0 5 rfl rfl)
theorem dX1_seizedIn_6 : decode cX1_seizedIn 6 = .ok (.invokevirtual 153, 3) := dk_182 0 153 (dk_at dksX1_seizedIn_0 6 rfl rfl)
theorem dX1_seizedIn_9 : decode cX1_seizedIn 9 = .ok (.ifCond .ne 9, 3) := dk_154 0 9 (dk_at dksX1_seizedIn_0 9 rfl rfl)
theorem dX1_seizedIn_12 : decode cX1_seizedIn 12 = .ok (.aload_n 0, 1) := dk_42 (dk_at dksX1_seizedIn_0 12 rfl rfl)
theorem dX1_seizedIn_13 : decode cX1_seizedIn 13 = .ok (.iconst 1, 1) := dk_4 (dk_at dksX1_seizedIn_0 13 rfl rfl)
theorem dX1_seizedIn_14 : decode cX1_seizedIn 14 = .ok (.invokevirtual 107, 3) := dk_182 0 107 (dk_at dksX1_seizedIn_0 14 rfl rfl)
theorem dX1_seizedIn_17 : decode cX1_seizedIn 17 = .ok (.ireturn, 1) := dk_172 (dk_at dksX1_seizedIn_0 17 rfl rfl)
theorem dX1_seizedIn_18 : decode cX1_seizedIn 18 = .ok (.iload_n 2, 1) := dk_28 (dk_at dksX1_seizedIn_0 18 rfl rfl)
theorem dX1_seizedIn_19 : decode cX1_seizedIn 19 = .ok (.iconst 0, 1) := dk_3 (dk_at dksX1_seizedIn_0 19 rfl rfl)
theorem dX1_seizedIn_20 : decode cX1_seizedIn 20 = .ok (.ldc_w 356, 3) := dk_19 1 100 (dk_at dksX1_seizedIn_0 20 rfl rfl)
theorem dX1_seizedIn_23 : decode cX1_seizedIn 23 = .ok (.invokestatic 103, 3) := dk_184 0 103 (dk_at dksX1_seizedIn_1 0 rfl rfl)
theorem dX1_seizedIn_26 : decode cX1_seizedIn 26 = .ok (.ifCond .eq 13, 3) := dk_153 0 13 (dk_at dksX1_seizedIn_1 3 rfl rfl)
theorem dX1_seizedIn_29 : decode cX1_seizedIn 29 = .ok (.iload_n 3, 1) := dk_29 (dk_at dksX1_seizedIn_1 6 rfl rfl)
theorem dX1_seizedIn_30 : decode cX1_seizedIn 30 = .ok (.iconst 1, 1) := dk_4 (dk_at dksX1_seizedIn_1 7 rfl rfl)
theorem dX1_seizedIn_31 : decode cX1_seizedIn 31 = .ok (.bipush 50, 2) := dk_16 50 (dk_at dksX1_seizedIn_1 8 rfl rfl)
theorem dX1_seizedIn_33 : decode cX1_seizedIn 33 = .ok (.invokestatic 103, 3) := dk_184 0 103 (dk_at dksX1_seizedIn_1 10 rfl rfl)
theorem dX1_seizedIn_36 : decode cX1_seizedIn 36 = .ok (.ifCond .ne 9, 3) := dk_154 0 9 (dk_at dksX1_seizedIn_1 13 rfl rfl)
theorem dX1_seizedIn_39 : decode cX1_seizedIn 39 = .ok (.aload_n 0, 1) := dk_42 (dk_at dksX1_seizedIn_1 16 rfl rfl)
theorem dX1_seizedIn_40 : decode cX1_seizedIn 40 = .ok (.iconst 2, 1) := dk_5 (dk_at dksX1_seizedIn_1 17 rfl rfl)
theorem dX1_seizedIn_41 : decode cX1_seizedIn 41 = .ok (.invokevirtual 107, 3) := dk_182 0 107 (dk_at dksX1_seizedIn_1 18 rfl rfl)
theorem dX1_seizedIn_44 : decode cX1_seizedIn 44 = .ok (.ireturn, 1) := dk_172 (dk_at dksX1_seizedIn_1 21 rfl rfl)
theorem dX1_seizedIn_45 : decode cX1_seizedIn 45 = .ok (.iconst 0, 1) := dk_3 (dk_at dksX1_seizedIn_1 22 rfl rfl)
theorem dX1_seizedIn_46 : decode cX1_seizedIn 46 = .ok (.istore 4, 2) := dk_54 4 (dk_at dksX1_seizedIn_2 0 rfl rfl)
theorem dX1_seizedIn_48 : decode cX1_seizedIn 48 = .ok (.iload_n 2, 1) := dk_28 (dk_at dksX1_seizedIn_2 2 rfl rfl)
theorem dX1_seizedIn_49 : decode cX1_seizedIn 49 = .ok (.istore 5, 2) := dk_54 5 (dk_at dksX1_seizedIn_2 3 rfl rfl)
theorem dX1_seizedIn_51 : decode cX1_seizedIn 51 = .ok (.iconst 0, 1) := dk_3 (dk_at dksX1_seizedIn_2 5 rfl rfl)
theorem dX1_seizedIn_52 : decode cX1_seizedIn 52 = .ok (.istore 6, 2) := dk_54 6 (dk_at dksX1_seizedIn_2 6 rfl rfl)
theorem dX1_seizedIn_54 : decode cX1_seizedIn 54 = .ok (.iload 6, 2) := dk_21 6 (dk_at dksX1_seizedIn_2 8 rfl rfl)
theorem dX1_seizedIn_56 : decode cX1_seizedIn 56 = .ok (.iload_n 3, 1) := dk_29 (dk_at dksX1_seizedIn_2 10 rfl rfl)
theorem dX1_seizedIn_57 : decode cX1_seizedIn 57 = .ok (.if_icmp .ge 54, 3) := dk_162 0 54 (dk_at dksX1_seizedIn_2 11 rfl rfl)
theorem dX1_seizedIn_60 : decode cX1_seizedIn 60 = .ok (.aload_n 0, 1) := dk_42 (dk_at dksX1_seizedIn_2 14 rfl rfl)
theorem dX1_seizedIn_61 : decode cX1_seizedIn 61 = .ok (.getfield 60, 3) := dk_180 0 60 (dk_at dksX1_seizedIn_2 15 rfl rfl)
theorem dX1_seizedIn_64 : decode cX1_seizedIn 64 = .ok (.aload_n 0, 1) := dk_42 (dk_at dksX1_seizedIn_2 18 rfl rfl)
theorem dX1_seizedIn_65 : decode cX1_seizedIn 65 = .ok (.getfield 118, 3) := dk_180 0 118 (dk_at dksX1_seizedIn_2 19 rfl rfl)
theorem dX1_seizedIn_68 : decode cX1_seizedIn 68 = .ok (.aload_n 0, 1) := dk_42 (dk_at dksX1_seizedIn_2 22 rfl rfl)
theorem dX1_seizedIn_69 : decode cX1_seizedIn 69 = .ok (.getfield 43, 3) := dk_180 0 43 (dk_at dksX1_seizedIn_3 0 rfl rfl)
theorem dX1_seizedIn_72 : decode cX1_seizedIn 72 = .ok (.iconst 1, 1) := dk_4 (dk_at dksX1_seizedIn_3 3 rfl rfl)
theorem dX1_seizedIn_73 : decode cX1_seizedIn 73 = .ok (.iload 5, 2) := dk_21 5 (dk_at dksX1_seizedIn_3 4 rfl rfl)
theorem dX1_seizedIn_75 : decode cX1_seizedIn 75 = .ok (.invokevirtual 132, 3) := dk_182 0 132 (dk_at dksX1_seizedIn_3 6 rfl rfl)
theorem dX1_seizedIn_78 : decode cX1_seizedIn 78 = .ok (.istore 5, 2) := dk_54 5 (dk_at dksX1_seizedIn_3 9 rfl rfl)
theorem dX1_seizedIn_80 : decode cX1_seizedIn 80 = .ok (.iload 4, 2) := dk_21 4 (dk_at dksX1_seizedIn_3 11 rfl rfl)
theorem dX1_seizedIn_82 : decode cX1_seizedIn 82 = .ok (.aload_n 0, 1) := dk_42 (dk_at dksX1_seizedIn_3 13 rfl rfl)
theorem dX1_seizedIn_83 : decode cX1_seizedIn 83 = .ok (.getfield 60, 3) := dk_180 0 60 (dk_at dksX1_seizedIn_3 14 rfl rfl)
theorem dX1_seizedIn_86 : decode cX1_seizedIn 86 = .ok (.iconst 3, 1) := dk_6 (dk_at dksX1_seizedIn_3 17 rfl rfl)
theorem dX1_seizedIn_87 : decode cX1_seizedIn 87 = .ok (.invokevirtual 331, 3) := dk_182 1 75 (dk_at dksX1_seizedIn_3 18 rfl rfl)
theorem dX1_seizedIn_90 : decode cX1_seizedIn 90 = .ok (.iload_n 1, 1) := dk_27 (dk_at dksX1_seizedIn_3 21 rfl rfl)
theorem dX1_seizedIn_91 : decode cX1_seizedIn 91 = .ok (.invokestatic 189, 3) := dk_184 0 189 (dk_at dksX1_seizedIn_4 0 rfl rfl)
theorem dX1_seizedIn_94 : decode cX1_seizedIn 94 = .ok (.ifCond .eq 7, 3) := dk_153 0 7 (dk_at dksX1_seizedIn_4 3 rfl rfl)
theorem dX1_seizedIn_97 : decode cX1_seizedIn 97 = .ok (.iconst 1, 1) := dk_4 (dk_at dksX1_seizedIn_4 6 rfl rfl)
theorem dX1_seizedIn_98 : decode cX1_seizedIn 98 = .ok (.goto 4, 3) := dk_167 0 4 (dk_at dksX1_seizedIn_4 7 rfl rfl)
theorem dX1_seizedIn_101 : decode cX1_seizedIn 101 = .ok (.iconst 0, 1) := dk_3 (dk_at dksX1_seizedIn_4 10 rfl rfl)
theorem dX1_seizedIn_102 : decode cX1_seizedIn 102 = .ok (.iadd, 1) := dk_96 (dk_at dksX1_seizedIn_4 11 rfl rfl)
theorem dX1_seizedIn_103 : decode cX1_seizedIn 103 = .ok (.istore 4, 2) := dk_54 4 (dk_at dksX1_seizedIn_4 12 rfl rfl)
theorem dX1_seizedIn_105 : decode cX1_seizedIn 105 = .ok (.iinc 6 1, 3) := dk_132 6 1 (dk_at dksX1_seizedIn_4 14 rfl rfl)
theorem dX1_seizedIn_108 : decode cX1_seizedIn 108 = .ok (.goto (-54), 3) := dk_167 255 202 (dk_at dksX1_seizedIn_4 17 rfl rfl)
theorem dX1_seizedIn_111 : decode cX1_seizedIn 111 = .ok (.iload 4, 2) := dk_21 4 (dk_at dksX1_seizedIn_4 20 rfl rfl)
theorem dX1_seizedIn_113 : decode cX1_seizedIn 113 = .ok (.ireturn, 1) := dk_172 (dk_at dksX1_seizedIn_4 22 rfl rfl)
abbrev cX1_eat : ByteArray := prog_1_method_66_code
def yX1_eat : MethodName := ⟨RX1, "eat", "(I)Z"⟩
def dkwX1_eat_4 : List UInt8 := [180, 0, 176, 92, 46, 4, 96, 79, 42, 182, 1, 117, 172]
abbrev dktX1_eat_4 : List UInt8 := dkwX1_eat_4 ++ []
def dkwX1_eat_3 : List UInt8 := [180, 0, 182, 27, 4, 79, 42, 180, 0, 33, 180, 1, 114, 42, 180, 0, 118, 180, 0, 157, 27, 50]
abbrev dktX1_eat_3 : List UInt8 := dkwX1_eat_3 ++ dktX1_eat_4
def dkwX1_eat_2 : List UInt8 := [154, 0, 7, 8, 167, 0, 4, 3, 182, 1, 108, 154, 0, 5, 3, 172, 42, 182, 1, 111, 42, 180, 0, 33]
abbrev dktX1_eat_2 : List UInt8 := dkwX1_eat_2 ++ dktX1_eat_3
def dkwX1_eat_1 : List UInt8 := [154, 0, 25, 42, 180, 0, 33, 42, 180, 0, 118, 180, 0, 157, 27, 50, 180, 0, 176, 182, 0, 205]
abbrev dktX1_eat_1 : List UInt8 := dkwX1_eat_1 ++ dktX1_eat_2
def dkwX1_eat_0 : List UInt8 := [42, 42, 27, 182, 0, 153, 154, 0, 7, 4, 167, 0, 42, 42, 180, 0, 33, 180, 0, 182, 27, 46]
abbrev dktX1_eat_0 : List UInt8 := dkwX1_eat_0 ++ dktX1_eat_1
theorem dksX1_eat_0 : cX1_eat.data.toList.drop 0 = dktX1_eat_0 := by decide +kernel
theorem dksX1_eat_1 : cX1_eat.data.toList.drop 22 = dktX1_eat_1 := dk_seg dksX1_eat_0 22 rfl rfl
theorem dksX1_eat_2 : cX1_eat.data.toList.drop 44 = dktX1_eat_2 := dk_seg dksX1_eat_1 22 rfl rfl
theorem dksX1_eat_3 : cX1_eat.data.toList.drop 68 = dktX1_eat_3 := dk_seg dksX1_eat_2 24 rfl rfl
theorem dksX1_eat_4 : cX1_eat.data.toList.drop 90 = dktX1_eat_4 := dk_seg dksX1_eat_3 22 rfl rfl
theorem dX1_eat_0 : decode cX1_eat 0 = .ok (.aload_n 0, 1) := dk_42 (dk_at dksX1_eat_0 0 rfl rfl)
theorem dX1_eat_1 : decode cX1_eat 1 = .ok (.aload_n 0, 1) := dk_42 (dk_at dksX1_eat_0 1 rfl rfl)
theorem dX1_eat_2 : decode cX1_eat 2 = .ok (.iload_n 1, 1) := dk_27 (dk_at dksX1_eat_0 2 rfl rfl)
theorem dX1_eat_3 : decode cX1_eat 3 = .ok (.invokevirtual 153, 3) := dk_182 0 153 (dk_at dksX1_eat_0 3 rfl rfl)
theorem dX1_eat_6 : decode cX1_eat 6 = .ok (.ifCond .ne 7, 3) := dk_154 0 7 (dk_at dksX1_eat_0 6 rfl rfl)
theorem dX1_eat_9 : decode cX1_eat 9 = .ok (.iconst 1, 1) := dk_4 (dk_at dksX1_eat_0 9 rfl rfl)
theorem dX1_eat_10 : decode cX1_eat 10 = .ok (.goto 42, 3) := dk_167 0 42 (dk_at dksX1_eat_0 10 rfl rfl)
theorem dX1_eat_13 : decode cX1_eat 13 = .ok (.aload_n 0, 1) := dk_42 (dk_at dksX1_eat_0 13 rfl rfl)
theorem dX1_eat_14 : decode cX1_eat 14 = .ok (.getfield 33, 3) := dk_180 0 33 (dk_at dksX1_eat_0 14 rfl rfl)
theorem dX1_eat_17 : decode cX1_eat 17 = .ok (.getfield 182, 3) := dk_180 0 182 (dk_at dksX1_eat_0 17 rfl rfl)
theorem dX1_eat_20 : decode cX1_eat 20 = .ok (.iload_n 1, 1) := dk_27 (dk_at dksX1_eat_0 20 rfl rfl)
theorem dX1_eat_21 : decode cX1_eat 21 = .ok (.iaload, 1) := dk_46 (dk_at dksX1_eat_0 21 rfl rfl)
theorem dX1_eat_22 : decode cX1_eat 22 = .ok (.ifCond .ne 25, 3) := dk_154 0 25 (dk_at dksX1_eat_1 0 rfl rfl)
theorem dX1_eat_25 : decode cX1_eat 25 = .ok (.aload_n 0, 1) := dk_42 (dk_at dksX1_eat_1 3 rfl rfl)
theorem dX1_eat_26 : decode cX1_eat 26 = .ok (.getfield 33, 3) := dk_180 0 33 (dk_at dksX1_eat_1 4 rfl rfl)
theorem dX1_eat_29 : decode cX1_eat 29 = .ok (.aload_n 0, 1) := dk_42 (dk_at dksX1_eat_1 7 rfl rfl)
theorem dX1_eat_30 : decode cX1_eat 30 = .ok (.getfield 118, 3) := dk_180 0 118 (dk_at dksX1_eat_1 8 rfl rfl)
theorem dX1_eat_33 : decode cX1_eat 33 = .ok (.getfield 157, 3) := dk_180 0 157 (dk_at dksX1_eat_1 11 rfl rfl)
theorem dX1_eat_36 : decode cX1_eat 36 = .ok (.iload_n 1, 1) := dk_27 (dk_at dksX1_eat_1 14 rfl rfl)
theorem dX1_eat_37 : decode cX1_eat 37 = .ok (.aaload, 1) := dk_50 (dk_at dksX1_eat_1 15 rfl rfl)
theorem dX1_eat_38 : decode cX1_eat 38 = .ok (.getfield 176, 3) := dk_180 0 176 (dk_at dksX1_eat_1 16 rfl rfl)
theorem dX1_eat_41 : decode cX1_eat 41 = .ok (.invokevirtual 205, 3) := dk_182 0 205 (dk_at dksX1_eat_1 19 rfl rfl)
theorem dX1_eat_44 : decode cX1_eat 44 = .ok (.ifCond .ne 7, 3) := dk_154 0 7 (dk_at dksX1_eat_2 0 rfl rfl)
theorem dX1_eat_47 : decode cX1_eat 47 = .ok (.iconst 5, 1) := dk_8 (dk_at dksX1_eat_2 3 rfl rfl)
theorem dX1_eat_48 : decode cX1_eat 48 = .ok (.goto 4, 3) := dk_167 0 4 (dk_at dksX1_eat_2 4 rfl rfl)
theorem dX1_eat_51 : decode cX1_eat 51 = .ok (.iconst 0, 1) := dk_3 (dk_at dksX1_eat_2 7 rfl rfl)
theorem dX1_eat_52 : decode cX1_eat 52 = .ok (.invokevirtual 364, 3) := dk_182 1 108 (dk_at dksX1_eat_2 8 rfl rfl)
theorem dX1_eat_55 : decode cX1_eat 55 = .ok (.ifCond .ne 5, 3) := dk_154 0 5 (dk_at dksX1_eat_2 11 rfl rfl)
theorem dX1_eat_58 : decode cX1_eat 58 = .ok (.iconst 0, 1) := dk_3 (dk_at dksX1_eat_2 14 rfl rfl)
theorem dX1_eat_59 : decode cX1_eat 59 = .ok (.ireturn, 1) := dk_172 (dk_at dksX1_eat_2 15 rfl rfl)
theorem dX1_eat_60 : decode cX1_eat 60 = .ok (.aload_n 0, 1) := dk_42 (dk_at dksX1_eat_2 16 rfl rfl)
theorem dX1_eat_61 : decode cX1_eat 61 = .ok (.invokevirtual 367, 3) := dk_182 1 111 (dk_at dksX1_eat_2 17 rfl rfl)
theorem dX1_eat_64 : decode cX1_eat 64 = .ok (.aload_n 0, 1) := dk_42 (dk_at dksX1_eat_2 20 rfl rfl)
theorem dX1_eat_65 : decode cX1_eat 65 = .ok (.getfield 33, 3) := dk_180 0 33 (dk_at dksX1_eat_2 21 rfl rfl)
theorem dX1_eat_68 : decode cX1_eat 68 = .ok (.getfield 182, 3) := dk_180 0 182 (dk_at dksX1_eat_3 0 rfl rfl)
theorem dX1_eat_71 : decode cX1_eat 71 = .ok (.iload_n 1, 1) := dk_27 (dk_at dksX1_eat_3 3 rfl rfl)
theorem dX1_eat_72 : decode cX1_eat 72 = .ok (.iconst 1, 1) := dk_4 (dk_at dksX1_eat_3 4 rfl rfl)
theorem dX1_eat_73 : decode cX1_eat 73 = .ok (.iastore, 1) := dk_79 (dk_at dksX1_eat_3 5 rfl rfl)
theorem dX1_eat_74 : decode cX1_eat 74 = .ok (.aload_n 0, 1) := dk_42 (dk_at dksX1_eat_3 6 rfl rfl)
theorem dX1_eat_75 : decode cX1_eat 75 = .ok (.getfield 33, 3) := dk_180 0 33 (dk_at dksX1_eat_3 7 rfl rfl)
theorem dX1_eat_78 : decode cX1_eat 78 = .ok (.getfield 370, 3) := dk_180 1 114 (dk_at dksX1_eat_3 10 rfl rfl)
theorem dX1_eat_81 : decode cX1_eat 81 = .ok (.aload_n 0, 1) := dk_42 (dk_at dksX1_eat_3 13 rfl rfl)
theorem dX1_eat_82 : decode cX1_eat 82 = .ok (.getfield 118, 3) := dk_180 0 118 (dk_at dksX1_eat_3 14 rfl rfl)
theorem dX1_eat_85 : decode cX1_eat 85 = .ok (.getfield 157, 3) := dk_180 0 157 (dk_at dksX1_eat_3 17 rfl rfl)
theorem dX1_eat_88 : decode cX1_eat 88 = .ok (.iload_n 1, 1) := dk_27 (dk_at dksX1_eat_3 20 rfl rfl)
theorem dX1_eat_89 : decode cX1_eat 89 = .ok (.aaload, 1) := dk_50 (dk_at dksX1_eat_3 21 rfl rfl)
theorem dX1_eat_90 : decode cX1_eat 90 = .ok (.getfield 176, 3) := dk_180 0 176 (dk_at dksX1_eat_4 0 rfl rfl)
theorem dX1_eat_93 : decode cX1_eat 93 = .ok (.dup2, 1) := dk_92 (dk_at dksX1_eat_4 3 rfl rfl)
theorem dX1_eat_94 : decode cX1_eat 94 = .ok (.iaload, 1) := dk_46 (dk_at dksX1_eat_4 4 rfl rfl)
theorem dX1_eat_95 : decode cX1_eat 95 = .ok (.iconst 1, 1) := dk_4 (dk_at dksX1_eat_4 5 rfl rfl)
theorem dX1_eat_96 : decode cX1_eat 96 = .ok (.iadd, 1) := dk_96 (dk_at dksX1_eat_4 6 rfl rfl)
theorem dX1_eat_97 : decode cX1_eat 97 = .ok (.iastore, 1) := dk_79 (dk_at dksX1_eat_4 7 rfl rfl)
theorem dX1_eat_98 : decode cX1_eat 98 = .ok (.aload_n 0, 1) := dk_42 (dk_at dksX1_eat_4 8 rfl rfl)
theorem dX1_eat_99 : decode cX1_eat 99 = .ok (.invokevirtual 373, 3) := dk_182 1 117 (dk_at dksX1_eat_4 9 rfl rfl)
theorem dX1_eat_102 : decode cX1_eat 102 = .ok (.ireturn, 1) := dk_172 (dk_at dksX1_eat_4 12 rfl rfl)
abbrev cX1_yes : ByteArray := prog_1_method_9_code
def yX1_yes : MethodName := ⟨RX1, "yes", "(I)Z"⟩
def dkwX1_yes_0 : List UInt8 := [42, 182, 0, 93, 42, 27, 181, 0, 90, 27, 154, 0, 7, 4, 167, 0, 4, 3, 172]
abbrev dktX1_yes_0 : List UInt8 := dkwX1_yes_0 ++ []
theorem dksX1_yes_0 : cX1_yes.data.toList.drop 0 = dktX1_yes_0 := by decide +kernel
theorem dX1_yes_0 : decode cX1_yes 0 = .ok (.aload_n 0, 1) := dk_42 (dk_at dksX1_yes_0 0 rfl rfl)
theorem dX1_yes_1 : decode cX1_yes 1 = .ok (.invokevirtual 93, 3) := dk_182 0 93 (dk_at dksX1_yes_0 1 rfl rfl)
theorem dX1_yes_4 : decode cX1_yes 4 = .ok (.aload_n 0, 1) := dk_42 (dk_at dksX1_yes_0 4 rfl rfl)
theorem dX1_yes_5 : decode cX1_yes 5 = .ok (.iload_n 1, 1) := dk_27 (dk_at dksX1_yes_0 5 rfl rfl)
theorem dX1_yes_6 : decode cX1_yes 6 = .ok (.putfield 90, 3) := dk_181 0 90 (dk_at dksX1_yes_0 6 rfl rfl)
theorem dX1_yes_9 : decode cX1_yes 9 = .ok (.iload_n 1, 1) := dk_27 (dk_at dksX1_yes_0 9 rfl rfl)
theorem dX1_yes_10 : decode cX1_yes 10 = .ok (.ifCond .ne 7, 3) := dk_154 0 7 (dk_at dksX1_yes_0 10 rfl rfl)
theorem dX1_yes_13 : decode cX1_yes 13 = .ok (.iconst 1, 1) := dk_4 (dk_at dksX1_yes_0 13 rfl rfl)
theorem dX1_yes_14 : decode cX1_yes 14 = .ok (.goto 4, 3) := dk_167 0 4 (dk_at dksX1_yes_0 14 rfl rfl)
theorem dX1_yes_17 : decode cX1_yes 17 = .ok (.iconst 0, 1) := dk_3 (dk_at dksX1_yes_0 17 rfl rfl)
theorem dX1_yes_18 : decode cX1_yes 18 = .ok (.ireturn, 1) := dk_172 (dk_at dksX1_yes_0 18 rfl rfl)
abbrev cX1_note : ByteArray := prog_1_method_64_code
def yX1_note : MethodName := ⟨RX1, "note", "()V"⟩
def dkwX1_note_0 : List UInt8 := [42, 180, 0, 37, 42, 180, 0, 33, 182, 1, 104, 177]
abbrev dktX1_note_0 : List UInt8 := dkwX1_note_0 ++ []
theorem dksX1_note_0 : cX1_note.data.toList.drop 0 = dktX1_note_0 := by decide +kernel
theorem dX1_note_0 : decode cX1_note 0 = .ok (.aload_n 0, 1) := dk_42 (dk_at dksX1_note_0 0 rfl rfl)
theorem dX1_note_1 : decode cX1_note 1 = .ok (.getfield 37, 3) := dk_180 0 37 (dk_at dksX1_note_0 1 rfl rfl)
theorem dX1_note_4 : decode cX1_note 4 = .ok (.aload_n 0, 1) := dk_42 (dk_at dksX1_note_0 4 rfl rfl)
theorem dX1_note_5 : decode cX1_note 5 = .ok (.getfield 33, 3) := dk_180 0 33 (dk_at dksX1_note_0 5 rfl rfl)
theorem dX1_note_8 : decode cX1_note 8 = .ok (.invokevirtual 360, 3) := dk_182 1 104 (dk_at dksX1_note_0 8 rfl rfl)
theorem dX1_note_11 : decode cX1_note 11 = .ok (.return_, 1) := dk_177 (dk_at dksX1_note_0 11 rfl rfl)
abbrev cX1_done : ByteArray := prog_1_method_65_code
def yX1_done : MethodName := ⟨RX1, "done", "()Z"⟩
def dkwX1_done_3 : List UInt8 := [180, 0, 37, 182, 1, 104, 42, 89, 180, 0, 136, 4, 96, 181, 0, 136, 4, 172]
abbrev dktX1_done_3 : List UInt8 := dkwX1_done_3 ++ []
def dkwX1_done_2 : List UInt8 := [16, 15, 43, 83, 42, 89, 180, 0, 136, 4, 100, 181, 0, 136, 42, 180, 0, 83, 42, 180, 0, 136, 50, 42]
abbrev dktX1_done_2 : List UInt8 := dkwX1_done_2 ++ dktX1_done_3
def dkwX1_done_1 : List UInt8 := [42, 180, 0, 83, 28, 4, 100, 42, 180, 0, 83, 28, 50, 83, 132, 2, 1, 167, 255, 233, 42, 180, 0, 83]
abbrev dktX1_done_1 : List UInt8 := dkwX1_done_1 ++ dktX1_done_2
def dkwX1_done_0 : List UInt8 := [42, 180, 0, 136, 16, 16, 160, 0, 56, 42, 180, 0, 83, 3, 50, 76, 4, 61, 28, 16, 16, 162, 0, 23]
abbrev dktX1_done_0 : List UInt8 := dkwX1_done_0 ++ dktX1_done_1
theorem dksX1_done_0 : cX1_done.data.toList.drop 0 = dktX1_done_0 := by decide +kernel
theorem dksX1_done_1 : cX1_done.data.toList.drop 24 = dktX1_done_1 := dk_seg dksX1_done_0 24 rfl rfl
theorem dksX1_done_2 : cX1_done.data.toList.drop 48 = dktX1_done_2 := dk_seg dksX1_done_1 24 rfl rfl
theorem dksX1_done_3 : cX1_done.data.toList.drop 72 = dktX1_done_3 := dk_seg dksX1_done_2 24 rfl rfl
theorem dX1_done_0 : decode cX1_done 0 = .ok (.aload_n 0, 1) := dk_42 (dk_at dksX1_done_0 0 rfl rfl)
theorem dX1_done_1 : decode cX1_done 1 = .ok (.getfield 136, 3) := dk_180 0 136 (dk_at dksX1_done_0 1 rfl rfl)
theorem dX1_done_4 : decode cX1_done 4 = .ok (.bipush 16, 2) := dk_16 16 (dk_at dksX1_done_0 4 rfl rfl)
theorem dX1_done_6 : decode cX1_done 6 = .ok (.if_icmp .ne 56, 3) := dk_160 0 56 (dk_at dksX1_done_0 6 rfl rfl)
theorem dX1_done_9 : decode cX1_done 9 = .ok (.aload_n 0, 1) := dk_42 (dk_at dksX1_done_0 9 rfl rfl)
theorem dX1_done_10 : decode cX1_done 10 = .ok (.getfield 83, 3) := dk_180 0 83 (dk_at dksX1_done_0 10 rfl rfl)
theorem dX1_done_13 : decode cX1_done 13 = .ok (.iconst 0, 1) := dk_3 (dk_at dksX1_done_0 13 rfl rfl)
theorem dX1_done_14 : decode cX1_done 14 = .ok (.aaload, 1) := dk_50 (dk_at dksX1_done_0 14 rfl rfl)
theorem dX1_done_15 : decode cX1_done 15 = .ok (.astore_n 1, 1) := dk_76 (dk_at dksX1_done_0 15 rfl rfl)
theorem dX1_done_16 : decode cX1_done 16 = .ok (.iconst 1, 1) := dk_4 (dk_at dksX1_done_0 16 rfl rfl)
theorem dX1_done_17 : decode cX1_done 17 = .ok (.istore_n 2, 1) := dk_61 (dk_at dksX1_done_0 17 rfl rfl)
theorem dX1_done_18 : decode cX1_done 18 = .ok (.iload_n 2, 1) := dk_28 (dk_at dksX1_done_0 18 rfl rfl)
theorem dX1_done_19 : decode cX1_done 19 = .ok (.bipush 16, 2) := dk_16 16 (dk_at dksX1_done_0 19 rfl rfl)
theorem dX1_done_21 : decode cX1_done 21 = .ok (.if_icmp .ge 23, 3) := dk_162 0 23 (dk_at dksX1_done_0 21 rfl rfl)
theorem dX1_done_24 : decode cX1_done 24 = .ok (.aload_n 0, 1) := dk_42 (dk_at dksX1_done_1 0 rfl rfl)
theorem dX1_done_25 : decode cX1_done 25 = .ok (.getfield 83, 3) := dk_180 0 83 (dk_at dksX1_done_1 1 rfl rfl)
theorem dX1_done_28 : decode cX1_done 28 = .ok (.iload_n 2, 1) := dk_28 (dk_at dksX1_done_1 4 rfl rfl)
theorem dX1_done_29 : decode cX1_done 29 = .ok (.iconst 1, 1) := dk_4 (dk_at dksX1_done_1 5 rfl rfl)
theorem dX1_done_30 : decode cX1_done 30 = .ok (.isub, 1) := dk_100 (dk_at dksX1_done_1 6 rfl rfl)
theorem dX1_done_31 : decode cX1_done 31 = .ok (.aload_n 0, 1) := dk_42 (dk_at dksX1_done_1 7 rfl rfl)
theorem dX1_done_32 : decode cX1_done 32 = .ok (.getfield 83, 3) := dk_180 0 83 (dk_at dksX1_done_1 8 rfl rfl)
theorem dX1_done_35 : decode cX1_done 35 = .ok (.iload_n 2, 1) := dk_28 (dk_at dksX1_done_1 11 rfl rfl)
theorem dX1_done_36 : decode cX1_done 36 = .ok (.aaload, 1) := dk_50 (dk_at dksX1_done_1 12 rfl rfl)
theorem dX1_done_37 : decode cX1_done 37 = .ok (.aastore, 1) := dk_83 (dk_at dksX1_done_1 13 rfl rfl)
theorem dX1_done_38 : decode cX1_done 38 = .ok (.iinc 2 1, 3) := dk_132 2 1 (dk_at dksX1_done_1 14 rfl rfl)
theorem dX1_done_41 : decode cX1_done 41 = .ok (.goto (-23), 3) := dk_167 255 233 (dk_at dksX1_done_1 17 rfl rfl)
theorem dX1_done_44 : decode cX1_done 44 = .ok (.aload_n 0, 1) := dk_42 (dk_at dksX1_done_1 20 rfl rfl)
theorem dX1_done_45 : decode cX1_done 45 = .ok (.getfield 83, 3) := dk_180 0 83 (dk_at dksX1_done_1 21 rfl rfl)
theorem dX1_done_48 : decode cX1_done 48 = .ok (.bipush 15, 2) := dk_16 15 (dk_at dksX1_done_2 0 rfl rfl)
theorem dX1_done_50 : decode cX1_done 50 = .ok (.aload_n 1, 1) := dk_43 (dk_at dksX1_done_2 2 rfl rfl)
theorem dX1_done_51 : decode cX1_done 51 = .ok (.aastore, 1) := dk_83 (dk_at dksX1_done_2 3 rfl rfl)
theorem dX1_done_52 : decode cX1_done 52 = .ok (.aload_n 0, 1) := dk_42 (dk_at dksX1_done_2 4 rfl rfl)
theorem dX1_done_53 : decode cX1_done 53 = .ok (.dup, 1) := dk_89 (dk_at dksX1_done_2 5 rfl rfl)
theorem dX1_done_54 : decode cX1_done 54 = .ok (.getfield 136, 3) := dk_180 0 136 (dk_at dksX1_done_2 6 rfl rfl)
theorem dX1_done_57 : decode cX1_done 57 = .ok (.iconst 1, 1) := dk_4 (dk_at dksX1_done_2 9 rfl rfl)
theorem dX1_done_58 : decode cX1_done 58 = .ok (.isub, 1) := dk_100 (dk_at dksX1_done_2 10 rfl rfl)
theorem dX1_done_59 : decode cX1_done 59 = .ok (.putfield 136, 3) := dk_181 0 136 (dk_at dksX1_done_2 11 rfl rfl)
theorem dX1_done_62 : decode cX1_done 62 = .ok (.aload_n 0, 1) := dk_42 (dk_at dksX1_done_2 14 rfl rfl)
theorem dX1_done_63 : decode cX1_done 63 = .ok (.getfield 83, 3) := dk_180 0 83 (dk_at dksX1_done_2 15 rfl rfl)
theorem dX1_done_66 : decode cX1_done 66 = .ok (.aload_n 0, 1) := dk_42 (dk_at dksX1_done_2 18 rfl rfl)
theorem dX1_done_67 : decode cX1_done 67 = .ok (.getfield 136, 3) := dk_180 0 136 (dk_at dksX1_done_2 19 rfl rfl)
theorem dX1_done_70 : decode cX1_done 70 = .ok (.aaload, 1) := dk_50 (dk_at dksX1_done_2 22 rfl rfl)
theorem dX1_done_71 : decode cX1_done 71 = .ok (.aload_n 0, 1) := dk_42 (dk_at dksX1_done_2 23 rfl rfl)
theorem dX1_done_72 : decode cX1_done 72 = .ok (.getfield 37, 3) := dk_180 0 37 (dk_at dksX1_done_3 0 rfl rfl)
theorem dX1_done_75 : decode cX1_done 75 = .ok (.invokevirtual 360, 3) := dk_182 1 104 (dk_at dksX1_done_3 3 rfl rfl)
theorem dX1_done_78 : decode cX1_done 78 = .ok (.aload_n 0, 1) := dk_42 (dk_at dksX1_done_3 6 rfl rfl)
theorem dX1_done_79 : decode cX1_done 79 = .ok (.dup, 1) := dk_89 (dk_at dksX1_done_3 7 rfl rfl)
theorem dX1_done_80 : decode cX1_done 80 = .ok (.getfield 136, 3) := dk_180 0 136 (dk_at dksX1_done_3 8 rfl rfl)
theorem dX1_done_83 : decode cX1_done 83 = .ok (.iconst 1, 1) := dk_4 (dk_at dksX1_done_3 11 rfl rfl)
theorem dX1_done_84 : decode cX1_done 84 = .ok (.iadd, 1) := dk_96 (dk_at dksX1_done_3 12 rfl rfl)
theorem dX1_done_85 : decode cX1_done 85 = .ok (.putfield 136, 3) := dk_181 0 136 (dk_at dksX1_done_3 13 rfl rfl)
theorem dX1_done_88 : decode cX1_done 88 = .ok (.iconst 1, 1) := dk_4 (dk_at dksX1_done_3 16 rfl rfl)
theorem dX1_done_89 : decode cX1_done 89 = .ok (.ireturn, 1) := dk_172 (dk_at dksX1_done_3 17 rfl rfl)
abbrev cX1_hide : ByteArray := prog_1_method_67_code
def yX1_hide : MethodName := ⟨RX1, "hide", "(IZ)Z"⟩
def dkwX1_hide_3 : List UInt8 := [181, 0, 186, 42, 182, 1, 117, 172]
abbrev dktX1_hide_3 : List UInt8 := dkwX1_hide_3 ++ []
def dkwX1_hide_2 : List UInt8 := [182, 1, 108, 154, 0, 5, 3, 172, 42, 182, 1, 111, 42, 180, 0, 33, 89, 180, 0, 186, 4, 27, 120, 130]
abbrev dktX1_hide_2 : List UInt8 := dkwX1_hide_2 ++ dktX1_hide_3
def dkwX1_hide_1 : List UInt8 := [154, 0, 18, 42, 180, 0, 33, 180, 0, 186, 27, 184, 0, 189, 28, 160, 0, 7, 8, 167, 0, 4, 3]
abbrev dktX1_hide_1 : List UInt8 := dkwX1_hide_1 ++ dktX1_hide_2
def dkwX1_hide_0 : List UInt8 := [42, 42, 27, 182, 0, 153, 154, 0, 7, 4, 167, 0, 35, 42, 180, 0, 33, 180, 0, 182, 27, 46]
abbrev dktX1_hide_0 : List UInt8 := dkwX1_hide_0 ++ dktX1_hide_1
theorem dksX1_hide_0 : cX1_hide.data.toList.drop 0 = dktX1_hide_0 := by decide +kernel
theorem dksX1_hide_1 : cX1_hide.data.toList.drop 22 = dktX1_hide_1 := dk_seg dksX1_hide_0 22 rfl rfl
theorem dksX1_hide_2 : cX1_hide.data.toList.drop 45 = dktX1_hide_2 := dk_seg dksX1_hide_1 23 rfl rfl
theorem dksX1_hide_3 : cX1_hide.data.toList.drop 69 = dktX1_hide_3 := dk_seg dksX1_hide_2 24 rfl rfl
theorem dX1_hide_0 : decode cX1_hide 0 = .ok (.aload_n 0, 1) := dk_42 (dk_at dksX1_hide_0 0 rfl rfl)
theorem dX1_hide_1 : decode cX1_hide 1 = .ok (.aload_n 0, 1) := dk_42 (dk_at dksX1_hide_0 1 rfl rfl)
theorem dX1_hide_2 : decode cX1_hide 2 = .ok (.iload_n 1, 1) := dk_27 (dk_at dksX1_hide_0 2 rfl rfl)
theorem dX1_hide_3 : decode cX1_hide 3 = .ok (.invokevirtual 153, 3) := dk_182 0 153 (dk_at dksX1_hide_0 3 rfl rfl)
theorem dX1_hide_6 : decode cX1_hide 6 = .ok (.ifCond .ne 7, 3) := dk_154 0 7 (dk_at dksX1_hide_0 6 rfl rfl)
theorem dX1_hide_9 : decode cX1_hide 9 = .ok (.iconst 1, 1) := dk_4 (dk_at dksX1_hide_0 9 rfl rfl)
theorem dX1_hide_10 : decode cX1_hide 10 = .ok (.goto 35, 3) := dk_167 0 35 (dk_at dksX1_hide_0 10 rfl rfl)
theorem dX1_hide_13 : decode cX1_hide 13 = .ok (.aload_n 0, 1) := dk_42 (dk_at dksX1_hide_0 13 rfl rfl)
theorem dX1_hide_14 : decode cX1_hide 14 = .ok (.getfield 33, 3) := dk_180 0 33 (dk_at dksX1_hide_0 14 rfl rfl)
theorem dX1_hide_17 : decode cX1_hide 17 = .ok (.getfield 182, 3) := dk_180 0 182 (dk_at dksX1_hide_0 17 rfl rfl)
theorem dX1_hide_20 : decode cX1_hide 20 = .ok (.iload_n 1, 1) := dk_27 (dk_at dksX1_hide_0 20 rfl rfl)
theorem dX1_hide_21 : decode cX1_hide 21 = .ok (.iaload, 1) := dk_46 (dk_at dksX1_hide_0 21 rfl rfl)
theorem dX1_hide_22 : decode cX1_hide 22 = .ok (.ifCond .ne 18, 3) := dk_154 0 18 (dk_at dksX1_hide_1 0 rfl rfl)
theorem dX1_hide_25 : decode cX1_hide 25 = .ok (.aload_n 0, 1) := dk_42 (dk_at dksX1_hide_1 3 rfl rfl)
theorem dX1_hide_26 : decode cX1_hide 26 = .ok (.getfield 33, 3) := dk_180 0 33 (dk_at dksX1_hide_1 4 rfl rfl)
theorem dX1_hide_29 : decode cX1_hide 29 = .ok (.getfield 186, 3) := dk_180 0 186 (dk_at dksX1_hide_1 7 rfl rfl)
theorem dX1_hide_32 : decode cX1_hide 32 = .ok (.iload_n 1, 1) := dk_27 (dk_at dksX1_hide_1 10 rfl rfl)
theorem dX1_hide_33 : decode cX1_hide 33 = .ok (.invokestatic 189, 3) := dk_184 0 189 (dk_at dksX1_hide_1 11 rfl rfl)
theorem dX1_hide_36 : decode cX1_hide 36 = .ok (.iload_n 2, 1) := dk_28 (dk_at dksX1_hide_1 14 rfl rfl)
theorem dX1_hide_37 : decode cX1_hide 37 = .ok (.if_icmp .ne 7, 3) := dk_160 0 7 (dk_at dksX1_hide_1 15 rfl rfl)
theorem dX1_hide_40 : decode cX1_hide 40 = .ok (.iconst 5, 1) := dk_8 (dk_at dksX1_hide_1 18 rfl rfl)
theorem dX1_hide_41 : decode cX1_hide 41 = .ok (.goto 4, 3) := dk_167 0 4 (dk_at dksX1_hide_1 19 rfl rfl)
theorem dX1_hide_44 : decode cX1_hide 44 = .ok (.iconst 0, 1) := dk_3 (dk_at dksX1_hide_1 22 rfl rfl)
theorem dX1_hide_45 : decode cX1_hide 45 = .ok (.invokevirtual 364, 3) := dk_182 1 108 (dk_at dksX1_hide_2 0 rfl rfl)
theorem dX1_hide_48 : decode cX1_hide 48 = .ok (.ifCond .ne 5, 3) := dk_154 0 5 (dk_at dksX1_hide_2 3 rfl rfl)
theorem dX1_hide_51 : decode cX1_hide 51 = .ok (.iconst 0, 1) := dk_3 (dk_at dksX1_hide_2 6 rfl rfl)
theorem dX1_hide_52 : decode cX1_hide 52 = .ok (.ireturn, 1) := dk_172 (dk_at dksX1_hide_2 7 rfl rfl)
theorem dX1_hide_53 : decode cX1_hide 53 = .ok (.aload_n 0, 1) := dk_42 (dk_at dksX1_hide_2 8 rfl rfl)
theorem dX1_hide_54 : decode cX1_hide 54 = .ok (.invokevirtual 367, 3) := dk_182 1 111 (dk_at dksX1_hide_2 9 rfl rfl)
theorem dX1_hide_57 : decode cX1_hide 57 = .ok (.aload_n 0, 1) := dk_42 (dk_at dksX1_hide_2 12 rfl rfl)
theorem dX1_hide_58 : decode cX1_hide 58 = .ok (.getfield 33, 3) := dk_180 0 33 (dk_at dksX1_hide_2 13 rfl rfl)
theorem dX1_hide_61 : decode cX1_hide 61 = .ok (.dup, 1) := dk_89 (dk_at dksX1_hide_2 16 rfl rfl)
theorem dX1_hide_62 : decode cX1_hide 62 = .ok (.getfield 186, 3) := dk_180 0 186 (dk_at dksX1_hide_2 17 rfl rfl)
theorem dX1_hide_65 : decode cX1_hide 65 = .ok (.iconst 1, 1) := dk_4 (dk_at dksX1_hide_2 20 rfl rfl)
theorem dX1_hide_66 : decode cX1_hide 66 = .ok (.iload_n 1, 1) := dk_27 (dk_at dksX1_hide_2 21 rfl rfl)
theorem dX1_hide_67 : decode cX1_hide 67 = .ok (.ishl, 1) := dk_120 (dk_at dksX1_hide_2 22 rfl rfl)
theorem dX1_hide_68 : decode cX1_hide 68 = .ok (.ixor, 1) := dk_130 (dk_at dksX1_hide_2 23 rfl rfl)
theorem dX1_hide_69 : decode cX1_hide 69 = .ok (.putfield 186, 3) := dk_181 0 186 (dk_at dksX1_hide_3 0 rfl rfl)
theorem dX1_hide_72 : decode cX1_hide 72 = .ok (.aload_n 0, 1) := dk_42 (dk_at dksX1_hide_3 3 rfl rfl)
theorem dX1_hide_73 : decode cX1_hide 73 = .ok (.invokevirtual 373, 3) := dk_182 1 117 (dk_at dksX1_hide_3 4 rfl rfl)
theorem dX1_hide_76 : decode cX1_hide 76 = .ok (.ireturn, 1) := dk_172 (dk_at dksX1_hide_3 7 rfl rfl)
abbrev cX1_cross : ByteArray := prog_1_method_68_code
def yX1_cross : MethodName := ⟨RX1, "cross", "(II)I"⟩
def dkwX1_cross_3 : List UInt8 := [42, 180, 0, 33, 180, 0, 231, 42, 180, 0, 43, 182, 1, 121, 62, 42, 182, 1, 117, 87, 29, 172]
abbrev dktX1_cross_3 : List UInt8 := dkwX1_cross_3 ++ []
def dkwX1_cross_2 : List UInt8 := [182, 1, 111, 42, 180, 0, 33, 27, 42, 180, 0, 33, 27, 28, 42, 180, 0, 33, 180, 0, 231, 182, 1, 2]
abbrev dktX1_cross_2 : List UInt8 := dkwX1_cross_2 ++ dktX1_cross_3
def dkwX1_cross_1 : List UInt8 := [182, 0, 107, 172, 42, 180, 0, 33, 27, 182, 0, 211, 154, 0, 9, 42, 8, 182, 0, 107, 172, 42]
abbrev dktX1_cross_1 : List UInt8 := dkwX1_cross_1 ++ dktX1_cross_2
def dkwX1_cross_0 : List UInt8 := [42, 182, 0, 93, 42, 27, 182, 0, 193, 153, 0, 11, 42, 28, 182, 0, 213, 154, 0, 9, 42, 4]
abbrev dktX1_cross_0 : List UInt8 := dkwX1_cross_0 ++ dktX1_cross_1
theorem dksX1_cross_0 : cX1_cross.data.toList.drop 0 = dktX1_cross_0 := by decide +kernel
theorem dksX1_cross_1 : cX1_cross.data.toList.drop 22 = dktX1_cross_1 := dk_seg dksX1_cross_0 22 rfl rfl
theorem dksX1_cross_2 : cX1_cross.data.toList.drop 44 = dktX1_cross_2 := dk_seg dksX1_cross_1 22 rfl rfl
theorem dksX1_cross_3 : cX1_cross.data.toList.drop 68 = dktX1_cross_3 := dk_seg dksX1_cross_2 24 rfl rfl
theorem dX1_cross_0 : decode cX1_cross 0 = .ok (.aload_n 0, 1) := dk_42 (dk_at dksX1_cross_0 0 rfl rfl)
theorem dX1_cross_1 : decode cX1_cross 1 = .ok (.invokevirtual 93, 3) := dk_182 0 93 (dk_at dksX1_cross_0 1 rfl rfl)
theorem dX1_cross_4 : decode cX1_cross 4 = .ok (.aload_n 0, 1) := dk_42 (dk_at dksX1_cross_0 4 rfl rfl)
theorem dX1_cross_5 : decode cX1_cross 5 = .ok (.iload_n 1, 1) := dk_27 (dk_at dksX1_cross_0 5 rfl rfl)
theorem dX1_cross_6 : decode cX1_cross 6 = .ok (.invokevirtual 193, 3) := dk_182 0 193 (dk_at dksX1_cross_0 6 rfl rfl)
theorem dX1_cross_9 : decode cX1_cross 9 = .ok (.ifCond .eq 11, 3) := dk_153 0 11 (dk_at dksX1_cross_0 9 rfl rfl)
theorem dX1_cross_12 : decode cX1_cross 12 = .ok (.aload_n 0, 1) := dk_42 (dk_at dksX1_cross_0 12 rfl rfl)
theorem dX1_cross_13 : decode cX1_cross 13 = .ok (.iload_n 2, 1) := dk_28 (dk_at dksX1_cross_0 13 rfl rfl)
theorem dX1_cross_14 : decode cX1_cross 14 = .ok (.invokevirtual 213, 3) := dk_182 0 213 (dk_at dksX1_cross_0 14 rfl rfl)
theorem dX1_cross_17 : decode cX1_cross 17 = .ok (.ifCond .ne 9, 3) := dk_154 0 9 (dk_at dksX1_cross_0 17 rfl rfl)
theorem dX1_cross_20 : decode cX1_cross 20 = .ok (.aload_n 0, 1) := dk_42 (dk_at dksX1_cross_0 20 rfl rfl)
theorem dX1_cross_21 : decode cX1_cross 21 = .ok (.iconst 1, 1) := dk_4 (dk_at dksX1_cross_0 21 rfl rfl)
theorem dX1_cross_22 : decode cX1_cross 22 = .ok (.invokevirtual 107, 3) := dk_182 0 107 (dk_at dksX1_cross_1 0 rfl rfl)
theorem dX1_cross_25 : decode cX1_cross 25 = .ok (.ireturn, 1) := dk_172 (dk_at dksX1_cross_1 3 rfl rfl)
theorem dX1_cross_26 : decode cX1_cross 26 = .ok (.aload_n 0, 1) := dk_42 (dk_at dksX1_cross_1 4 rfl rfl)
theorem dX1_cross_27 : decode cX1_cross 27 = .ok (.getfield 33, 3) := dk_180 0 33 (dk_at dksX1_cross_1 5 rfl rfl)
theorem dX1_cross_30 : decode cX1_cross 30 = .ok (.iload_n 1, 1) := dk_27 (dk_at dksX1_cross_1 8 rfl rfl)
theorem dX1_cross_31 : decode cX1_cross 31 = .ok (.invokevirtual 211, 3) := dk_182 0 211 (dk_at dksX1_cross_1 9 rfl rfl)
theorem dX1_cross_34 : decode cX1_cross 34 = .ok (.ifCond .ne 9, 3) := dk_154 0 9 (dk_at dksX1_cross_1 12 rfl rfl)
theorem dX1_cross_37 : decode cX1_cross 37 = .ok (.aload_n 0, 1) := dk_42 (dk_at dksX1_cross_1 15 rfl rfl)
theorem dX1_cross_38 : decode cX1_cross 38 = .ok (.iconst 5, 1) := dk_8 (dk_at dksX1_cross_1 16 rfl rfl)
theorem dX1_cross_39 : decode cX1_cross 39 = .ok (.invokevirtual 107, 3) := dk_182 0 107 (dk_at dksX1_cross_1 17 rfl rfl)
theorem dX1_cross_42 : decode cX1_cross 42 = .ok (.ireturn, 1) := dk_172 (dk_at dksX1_cross_1 20 rfl rfl)
theorem dX1_cross_43 : decode cX1_cross 43 = .ok (.aload_n 0, 1) := dk_42 (dk_at dksX1_cross_1 21 rfl rfl)
theorem dX1_cross_44 : decode cX1_cross 44 = .ok (.invokevirtual 367, 3) := dk_182 1 111 (dk_at dksX1_cross_2 0 rfl rfl)
theorem dX1_cross_47 : decode cX1_cross 47 = .ok (.aload_n 0, 1) := dk_42 (dk_at dksX1_cross_2 3 rfl rfl)
theorem dX1_cross_48 : decode cX1_cross 48 = .ok (.getfield 33, 3) := dk_180 0 33 (dk_at dksX1_cross_2 4 rfl rfl)
theorem dX1_cross_51 : decode cX1_cross 51 = .ok (.iload_n 1, 1) := dk_27 (dk_at dksX1_cross_2 7 rfl rfl)
theorem dX1_cross_52 : decode cX1_cross 52 = .ok (.aload_n 0, 1) := dk_42 (dk_at dksX1_cross_2 8 rfl rfl)
theorem dX1_cross_53 : decode cX1_cross 53 = .ok (.getfield 33, 3) := dk_180 0 33 (dk_at dksX1_cross_2 9 rfl rfl)
theorem dX1_cross_56 : decode cX1_cross 56 = .ok (.iload_n 1, 1) := dk_27 (dk_at dksX1_cross_2 12 rfl rfl)
theorem dX1_cross_57 : decode cX1_cross 57 = .ok (.iload_n 2, 1) := dk_28 (dk_at dksX1_cross_2 13 rfl rfl)
theorem dX1_cross_58 : decode cX1_cross 58 = .ok (.aload_n 0, 1) := dk_42 (dk_at dksX1_cross_2 14 rfl rfl)
theorem dX1_cross_59 : decode cX1_cross 59 = .ok (.getfield 33, 3) := dk_180 0 33 (dk_at dksX1_cross_2 15 rfl rfl)
theorem dX1_cross_62 : decode cX1_cross 62 = .ok (.getfield 231, 3) := dk_180 0 231 (dk_at dksX1_cross_2 18 rfl rfl)
theorem dX1_cross_65 : decode cX1_cross 65 = .ok (.invokevirtual 258, 3) := dk_182 1 2 (dk_at dksX1_cross_2 21 rfl rfl)
theorem dX1_cross_68 : decode cX1_cross 68 = .ok (.aload_n 0, 1) := dk_42 (dk_at dksX1_cross_3 0 rfl rfl)
theorem dX1_cross_69 : decode cX1_cross 69 = .ok (.getfield 33, 3) := dk_180 0 33 (dk_at dksX1_cross_3 1 rfl rfl)
theorem dX1_cross_72 : decode cX1_cross 72 = .ok (.getfield 231, 3) := dk_180 0 231 (dk_at dksX1_cross_3 4 rfl rfl)
theorem dX1_cross_75 : decode cX1_cross 75 = .ok (.aload_n 0, 1) := dk_42 (dk_at dksX1_cross_3 7 rfl rfl)
theorem dX1_cross_76 : decode cX1_cross 76 = .ok (.getfield 43, 3) := dk_180 0 43 (dk_at dksX1_cross_3 8 rfl rfl)
theorem dX1_cross_79 : decode cX1_cross 79 = .ok (.invokevirtual 377, 3) := dk_182 1 121 (dk_at dksX1_cross_3 11 rfl rfl)
theorem dX1_cross_82 : decode cX1_cross 82 = .ok (.istore_n 3, 1) := dk_62 (dk_at dksX1_cross_3 14 rfl rfl)
theorem dX1_cross_83 : decode cX1_cross 83 = .ok (.aload_n 0, 1) := dk_42 (dk_at dksX1_cross_3 15 rfl rfl)
theorem dX1_cross_84 : decode cX1_cross 84 = .ok (.invokevirtual 373, 3) := dk_182 1 117 (dk_at dksX1_cross_3 16 rfl rfl)
theorem dX1_cross_87 : decode cX1_cross 87 = .ok (.pop, 1) := dk_87 (dk_at dksX1_cross_3 19 rfl rfl)
theorem dX1_cross_88 : decode cX1_cross 88 = .ok (.iload_n 3, 1) := dk_29 (dk_at dksX1_cross_3 20 rfl rfl)
theorem dX1_cross_89 : decode cX1_cross 89 = .ok (.ireturn, 1) := dk_172 (dk_at dksX1_cross_3 21 rfl rfl)
abbrev cX1_days : ByteArray := prog_1_method_69_code
def yX1_days : MethodName := ⟨RX1, "days", "(I)I"⟩
def dkwX1_days_3 : List UInt8 := [182, 1, 117, 87, 42, 180, 0, 33, 180, 0, 231, 172]
abbrev dktX1_days_3 : List UInt8 := dkwX1_days_3 ++ []
def dkwX1_days_2 : List UInt8 := [42, 6, 182, 0, 107, 172, 42, 182, 1, 111, 42, 180, 0, 33, 89, 180, 0, 231, 27, 96, 181, 0, 231, 42]
abbrev dktX1_days_2 : List UInt8 := dkwX1_days_2 ++ dktX1_days_3
def dkwX1_days_1 : List UInt8 := [154, 0, 9, 42, 5, 182, 0, 107, 172, 42, 180, 0, 33, 180, 0, 231, 27, 96, 17, 1, 44, 164, 0, 9]
abbrev dktX1_days_1 : List UInt8 := dkwX1_days_1 ++ dktX1_days_2
def dkwX1_days_0 : List UInt8 := [42, 182, 0, 93, 42, 180, 0, 118, 199, 0, 9, 42, 4, 182, 0, 107, 172, 27, 4, 16, 60, 184, 0, 103]
abbrev dktX1_days_0 : List UInt8 := dkwX1_days_0 ++ dktX1_days_1
theorem dksX1_days_0 : cX1_days.data.toList.drop 0 = dktX1_days_0 := by decide +kernel
theorem dksX1_days_1 : cX1_days.data.toList.drop 24 = dktX1_days_1 := dk_seg dksX1_days_0 24 rfl rfl
theorem dksX1_days_2 : cX1_days.data.toList.drop 48 = dktX1_days_2 := dk_seg dksX1_days_1 24 rfl rfl
theorem dksX1_days_3 : cX1_days.data.toList.drop 72 = dktX1_days_3 := dk_seg dksX1_days_2 24 rfl rfl
theorem dX1_days_0 : decode cX1_days 0 = .ok (.aload_n 0, 1) := dk_42 (dk_at dksX1_days_0 0 rfl rfl)
theorem dX1_days_1 : decode cX1_days 1 = .ok (.invokevirtual 93, 3) := dk_182 0 93 (dk_at dksX1_days_0 1 rfl rfl)
theorem dX1_days_4 : decode cX1_days 4 = .ok (.aload_n 0, 1) := dk_42 (dk_at dksX1_days_0 4 rfl rfl)
theorem dX1_days_5 : decode cX1_days 5 = .ok (.getfield 118, 3) := dk_180 0 118 (dk_at dksX1_days_0 5 rfl rfl)
theorem dX1_days_8 : decode cX1_days 8 = .ok (.ifnonnull 9, 3) := dk_199 0 9 (dk_at dksX1_days_0 8 rfl rfl)
theorem dX1_days_11 : decode cX1_days 11 = .ok (.aload_n 0, 1) := dk_42 (dk_at dksX1_days_0 11 rfl rfl)
theorem dX1_days_12 : decode cX1_days 12 = .ok (.iconst 1, 1) := dk_4 (dk_at dksX1_days_0 12 rfl rfl)
theorem dX1_days_13 : decode cX1_days 13 = .ok (.invokevirtual 107, 3) := dk_182 0 107 (dk_at dksX1_days_0 13 rfl rfl)
theorem dX1_days_16 : decode cX1_days 16 = .ok (.ireturn, 1) := dk_172 (dk_at dksX1_days_0 16 rfl rfl)
theorem dX1_days_17 : decode cX1_days 17 = .ok (.iload_n 1, 1) := dk_27 (dk_at dksX1_days_0 17 rfl rfl)
theorem dX1_days_18 : decode cX1_days 18 = .ok (.iconst 1, 1) := dk_4 (dk_at dksX1_days_0 18 rfl rfl)
theorem dX1_days_19 : decode cX1_days 19 = .ok (.bipush 60, 2) := dk_16 60 (dk_at dksX1_days_0 19 rfl rfl)
theorem dX1_days_21 : decode cX1_days 21 = .ok (.invokestatic 103, 3) := dk_184 0 103 (dk_at dksX1_days_0 21 rfl rfl)
theorem dX1_days_24 : decode cX1_days 24 = .ok (.ifCond .ne 9, 3) := dk_154 0 9 (dk_at dksX1_days_1 0 rfl rfl)
theorem dX1_days_27 : decode cX1_days 27 = .ok (.aload_n 0, 1) := dk_42 (dk_at dksX1_days_1 3 rfl rfl)
theorem dX1_days_28 : decode cX1_days 28 = .ok (.iconst 2, 1) := dk_5 (dk_at dksX1_days_1 4 rfl rfl)
theorem dX1_days_29 : decode cX1_days 29 = .ok (.invokevirtual 107, 3) := dk_182 0 107 (dk_at dksX1_days_1 5 rfl rfl)
theorem dX1_days_32 : decode cX1_days 32 = .ok (.ireturn, 1) := dk_172 (dk_at dksX1_days_1 8 rfl rfl)
theorem dX1_days_33 : decode cX1_days 33 = .ok (.aload_n 0, 1) := dk_42 (dk_at dksX1_days_1 9 rfl rfl)
theorem dX1_days_34 : decode cX1_days 34 = .ok (.getfield 33, 3) := dk_180 0 33 (dk_at dksX1_days_1 10 rfl rfl)
theorem dX1_days_37 : decode cX1_days 37 = .ok (.getfield 231, 3) := dk_180 0 231 (dk_at dksX1_days_1 13 rfl rfl)
theorem dX1_days_40 : decode cX1_days 40 = .ok (.iload_n 1, 1) := dk_27 (dk_at dksX1_days_1 16 rfl rfl)
theorem dX1_days_41 : decode cX1_days 41 = .ok (.iadd, 1) := dk_96 (dk_at dksX1_days_1 17 rfl rfl)
theorem dX1_days_42 : decode cX1_days 42 = .ok (.sipush 300, 3) := dk_17 1 44 (dk_at dksX1_days_1 18 rfl rfl)
theorem dX1_days_45 : decode cX1_days 45 = .ok (.if_icmp .le 9, 3) := dk_164 0 9 (dk_at dksX1_days_1 21 rfl rfl)
theorem dX1_days_48 : decode cX1_days 48 = .ok (.aload_n 0, 1) := dk_42 (dk_at dksX1_days_2 0 rfl rfl)
theorem dX1_days_49 : decode cX1_days 49 = .ok (.iconst 3, 1) := dk_6 (dk_at dksX1_days_2 1 rfl rfl)
theorem dX1_days_50 : decode cX1_days 50 = .ok (.invokevirtual 107, 3) := dk_182 0 107 (dk_at dksX1_days_2 2 rfl rfl)
theorem dX1_days_53 : decode cX1_days 53 = .ok (.ireturn, 1) := dk_172 (dk_at dksX1_days_2 5 rfl rfl)
theorem dX1_days_54 : decode cX1_days 54 = .ok (.aload_n 0, 1) := dk_42 (dk_at dksX1_days_2 6 rfl rfl)
theorem dX1_days_55 : decode cX1_days 55 = .ok (.invokevirtual 367, 3) := dk_182 1 111 (dk_at dksX1_days_2 7 rfl rfl)
theorem dX1_days_58 : decode cX1_days 58 = .ok (.aload_n 0, 1) := dk_42 (dk_at dksX1_days_2 10 rfl rfl)
theorem dX1_days_59 : decode cX1_days 59 = .ok (.getfield 33, 3) := dk_180 0 33 (dk_at dksX1_days_2 11 rfl rfl)
theorem dX1_days_62 : decode cX1_days 62 = .ok (.dup, 1) := dk_89 (dk_at dksX1_days_2 14 rfl rfl)
theorem dX1_days_63 : decode cX1_days 63 = .ok (.getfield 231, 3) := dk_180 0 231 (dk_at dksX1_days_2 15 rfl rfl)
theorem dX1_days_66 : decode cX1_days 66 = .ok (.iload_n 1, 1) := dk_27 (dk_at dksX1_days_2 18 rfl rfl)
theorem dX1_days_67 : decode cX1_days 67 = .ok (.iadd, 1) := dk_96 (dk_at dksX1_days_2 19 rfl rfl)
theorem dX1_days_68 : decode cX1_days 68 = .ok (.putfield 231, 3) := dk_181 0 231 (dk_at dksX1_days_2 20 rfl rfl)
theorem dX1_days_71 : decode cX1_days 71 = .ok (.aload_n 0, 1) := dk_42 (dk_at dksX1_days_2 23 rfl rfl)
theorem dX1_days_72 : decode cX1_days 72 = .ok (.invokevirtual 373, 3) := dk_182 1 117 (dk_at dksX1_days_3 0 rfl rfl)
theorem dX1_days_75 : decode cX1_days 75 = .ok (.pop, 1) := dk_87 (dk_at dksX1_days_3 3 rfl rfl)
theorem dX1_days_76 : decode cX1_days 76 = .ok (.aload_n 0, 1) := dk_42 (dk_at dksX1_days_3 4 rfl rfl)
theorem dX1_days_77 : decode cX1_days 77 = .ok (.getfield 33, 3) := dk_180 0 33 (dk_at dksX1_days_3 5 rfl rfl)
theorem dX1_days_80 : decode cX1_days 80 = .ok (.getfield 231, 3) := dk_180 0 231 (dk_at dksX1_days_3 8 rfl rfl)
theorem dX1_days_83 : decode cX1_days 83 = .ok (.ireturn, 1) := dk_172 (dk_at dksX1_days_3 11 rfl rfl)
abbrev cX1_undo : ByteArray := prog_1_method_70_code
def yX1_undo : MethodName := ⟨RX1, "undo", "()Z"⟩
def dkwX1_undo_2 : List UInt8 := [4, 172]
abbrev dktX1_undo_2 : List UInt8 := dkwX1_undo_2 ++ []
def dkwX1_undo_1 : List UInt8 := [180, 0, 136, 4, 100, 181, 0, 136, 42, 180, 0, 33, 42, 180, 0, 83, 42, 180, 0, 136, 50, 182, 1, 104]
abbrev dktX1_undo_1 : List UInt8 := dkwX1_undo_1 ++ dktX1_undo_2
def dkwX1_undo_0 : List UInt8 := [42, 42, 180, 0, 136, 154, 0, 8, 16, 6, 167, 0, 4, 3, 182, 1, 108, 154, 0, 5, 3, 172, 42, 89]
abbrev dktX1_undo_0 : List UInt8 := dkwX1_undo_0 ++ dktX1_undo_1
theorem dksX1_undo_0 : cX1_undo.data.toList.drop 0 = dktX1_undo_0 := by decide +kernel
theorem dksX1_undo_1 : cX1_undo.data.toList.drop 24 = dktX1_undo_1 := dk_seg dksX1_undo_0 24 rfl rfl
theorem dksX1_undo_2 : cX1_undo.data.toList.drop 48 = dktX1_undo_2 := dk_seg dksX1_undo_1 24 rfl rfl
theorem dX1_undo_0 : decode cX1_undo 0 = .ok (.aload_n 0, 1) := dk_42 (dk_at dksX1_undo_0 0 rfl rfl)
theorem dX1_undo_1 : decode cX1_undo 1 = .ok (.aload_n 0, 1) := dk_42 (dk_at dksX1_undo_0 1 rfl rfl)
theorem dX1_undo_2 : decode cX1_undo 2 = .ok (.getfield 136, 3) := dk_180 0 136 (dk_at dksX1_undo_0 2 rfl rfl)
theorem dX1_undo_5 : decode cX1_undo 5 = .ok (.ifCond .ne 8, 3) := dk_154 0 8 (dk_at dksX1_undo_0 5 rfl rfl)
theorem dX1_undo_8 : decode cX1_undo 8 = .ok (.bipush 6, 2) := dk_16 6 (dk_at dksX1_undo_0 8 rfl rfl)
theorem dX1_undo_10 : decode cX1_undo 10 = .ok (.goto 4, 3) := dk_167 0 4 (dk_at dksX1_undo_0 10 rfl rfl)
theorem dX1_undo_13 : decode cX1_undo 13 = .ok (.iconst 0, 1) := dk_3 (dk_at dksX1_undo_0 13 rfl rfl)
theorem dX1_undo_14 : decode cX1_undo 14 = .ok (.invokevirtual 364, 3) := dk_182 1 108 (dk_at dksX1_undo_0 14 rfl rfl)
theorem dX1_undo_17 : decode cX1_undo 17 = .ok (.ifCond .ne 5, 3) := dk_154 0 5 (dk_at dksX1_undo_0 17 rfl rfl)
theorem dX1_undo_20 : decode cX1_undo 20 = .ok (.iconst 0, 1) := dk_3 (dk_at dksX1_undo_0 20 rfl rfl)
theorem dX1_undo_21 : decode cX1_undo 21 = .ok (.ireturn, 1) := dk_172 (dk_at dksX1_undo_0 21 rfl rfl)
theorem dX1_undo_22 : decode cX1_undo 22 = .ok (.aload_n 0, 1) := dk_42 (dk_at dksX1_undo_0 22 rfl rfl)
theorem dX1_undo_23 : decode cX1_undo 23 = .ok (.dup, 1) := dk_89 (dk_at dksX1_undo_0 23 rfl rfl)
theorem dX1_undo_24 : decode cX1_undo 24 = .ok (.getfield 136, 3) := dk_180 0 136 (dk_at dksX1_undo_1 0 rfl rfl)
theorem dX1_undo_27 : decode cX1_undo 27 = .ok (.iconst 1, 1) := dk_4 (dk_at dksX1_undo_1 3 rfl rfl)
theorem dX1_undo_28 : decode cX1_undo 28 = .ok (.isub, 1) := dk_100 (dk_at dksX1_undo_1 4 rfl rfl)
theorem dX1_undo_29 : decode cX1_undo 29 = .ok (.putfield 136, 3) := dk_181 0 136 (dk_at dksX1_undo_1 5 rfl rfl)
theorem dX1_undo_32 : decode cX1_undo 32 = .ok (.aload_n 0, 1) := dk_42 (dk_at dksX1_undo_1 8 rfl rfl)
theorem dX1_undo_33 : decode cX1_undo 33 = .ok (.getfield 33, 3) := dk_180 0 33 (dk_at dksX1_undo_1 9 rfl rfl)
theorem dX1_undo_36 : decode cX1_undo 36 = .ok (.aload_n 0, 1) := dk_42 (dk_at dksX1_undo_1 12 rfl rfl)
theorem dX1_undo_37 : decode cX1_undo 37 = .ok (.getfield 83, 3) := dk_180 0 83 (dk_at dksX1_undo_1 13 rfl rfl)
theorem dX1_undo_40 : decode cX1_undo 40 = .ok (.aload_n 0, 1) := dk_42 (dk_at dksX1_undo_1 16 rfl rfl)
theorem dX1_undo_41 : decode cX1_undo 41 = .ok (.getfield 136, 3) := dk_180 0 136 (dk_at dksX1_undo_1 17 rfl rfl)
theorem dX1_undo_44 : decode cX1_undo 44 = .ok (.aaload, 1) := dk_50 (dk_at dksX1_undo_1 20 rfl rfl)
theorem dX1_undo_45 : decode cX1_undo 45 = .ok (.invokevirtual 360, 3) := dk_182 1 104 (dk_at dksX1_undo_1 21 rfl rfl)
theorem dX1_undo_48 : decode cX1_undo 48 = .ok (.iconst 1, 1) := dk_4 (dk_at dksX1_undo_2 0 rfl rfl)
theorem dX1_undo_49 : decode cX1_undo 49 = .ok (.ireturn, 1) := dk_172 (dk_at dksX1_undo_2 1 rfl rfl)
abbrev cX1_mark : ByteArray := prog_1_method_71_code
def yX1_mark : MethodName := ⟨RX1, "mark", "()I"⟩
def dkwX1_mark_2 : List UInt8 := [182, 1, 104, 42, 89, 180, 0, 139, 4, 96, 181, 0, 139, 42, 180, 0, 139, 4, 100, 172]
abbrev dktX1_mark_2 : List UInt8 := dkwX1_mark_2 ++ []
def dkwX1_mark_1 : List UInt8 := [160, 0, 9, 42, 6, 182, 0, 107, 172, 42, 180, 0, 87, 42, 180, 0, 139, 50, 42, 180, 0, 33]
abbrev dktX1_mark_1 : List UInt8 := dkwX1_mark_1 ++ dktX1_mark_2
def dkwX1_mark_0 : List UInt8 := [42, 182, 0, 93, 42, 180, 0, 118, 199, 0, 9, 42, 4, 182, 0, 107, 172, 42, 180, 0, 139, 6]
abbrev dktX1_mark_0 : List UInt8 := dkwX1_mark_0 ++ dktX1_mark_1
theorem dksX1_mark_0 : cX1_mark.data.toList.drop 0 = dktX1_mark_0 := by decide +kernel
theorem dksX1_mark_1 : cX1_mark.data.toList.drop 22 = dktX1_mark_1 := dk_seg dksX1_mark_0 22 rfl rfl
theorem dksX1_mark_2 : cX1_mark.data.toList.drop 44 = dktX1_mark_2 := dk_seg dksX1_mark_1 22 rfl rfl
theorem dX1_mark_0 : decode cX1_mark 0 = .ok (.aload_n 0, 1) := dk_42 (dk_at dksX1_mark_0 0 rfl rfl)
theorem dX1_mark_1 : decode cX1_mark 1 = .ok (.invokevirtual 93, 3) := dk_182 0 93 (dk_at dksX1_mark_0 1 rfl rfl)
theorem dX1_mark_4 : decode cX1_mark 4 = .ok (.aload_n 0, 1) := dk_42 (dk_at dksX1_mark_0 4 rfl rfl)
theorem dX1_mark_5 : decode cX1_mark 5 = .ok (.getfield 118, 3) := dk_180 0 118 (dk_at dksX1_mark_0 5 rfl rfl)
theorem dX1_mark_8 : decode cX1_mark 8 = .ok (.ifnonnull 9, 3) := dk_199 0 9 (dk_at dksX1_mark_0 8 rfl rfl)
theorem dX1_mark_11 : decode cX1_mark 11 = .ok (.aload_n 0, 1) := dk_42 (dk_at dksX1_mark_0 11 rfl rfl)
theorem dX1_mark_12 : decode cX1_mark 12 = .ok (.iconst 1, 1) := dk_4 (dk_at dksX1_mark_0 12 rfl rfl)
theorem dX1_mark_13 : decode cX1_mark 13 = .ok (.invokevirtual 107, 3) := dk_182 0 107 (dk_at dksX1_mark_0 13 rfl rfl)
theorem dX1_mark_16 : decode cX1_mark 16 = .ok (.ireturn, 1) := dk_172 (dk_at dksX1_mark_0 16 rfl rfl)
theorem dX1_mark_17 : decode cX1_mark 17 = .ok (.aload_n 0, 1) := dk_42 (dk_at dksX1_mark_0 17 rfl rfl)
theorem dX1_mark_18 : decode cX1_mark 18 = .ok (.getfield 139, 3) := dk_180 0 139 (dk_at dksX1_mark_0 18 rfl rfl)
theorem dX1_mark_21 : decode cX1_mark 21 = .ok (.iconst 3, 1) := dk_6 (dk_at dksX1_mark_0 21 rfl rfl)
theorem dX1_mark_22 : decode cX1_mark 22 = .ok (.if_icmp .ne 9, 3) := dk_160 0 9 (dk_at dksX1_mark_1 0 rfl rfl)
theorem dX1_mark_25 : decode cX1_mark 25 = .ok (.aload_n 0, 1) := dk_42 (dk_at dksX1_mark_1 3 rfl rfl)
theorem dX1_mark_26 : decode cX1_mark 26 = .ok (.iconst 3, 1) := dk_6 (dk_at dksX1_mark_1 4 rfl rfl)
theorem dX1_mark_27 : decode cX1_mark 27 = .ok (.invokevirtual 107, 3) := dk_182 0 107 (dk_at dksX1_mark_1 5 rfl rfl)
theorem dX1_mark_30 : decode cX1_mark 30 = .ok (.ireturn, 1) := dk_172 (dk_at dksX1_mark_1 8 rfl rfl)
theorem dX1_mark_31 : decode cX1_mark 31 = .ok (.aload_n 0, 1) := dk_42 (dk_at dksX1_mark_1 9 rfl rfl)
theorem dX1_mark_32 : decode cX1_mark 32 = .ok (.getfield 87, 3) := dk_180 0 87 (dk_at dksX1_mark_1 10 rfl rfl)
theorem dX1_mark_35 : decode cX1_mark 35 = .ok (.aload_n 0, 1) := dk_42 (dk_at dksX1_mark_1 13 rfl rfl)
theorem dX1_mark_36 : decode cX1_mark 36 = .ok (.getfield 139, 3) := dk_180 0 139 (dk_at dksX1_mark_1 14 rfl rfl)
theorem dX1_mark_39 : decode cX1_mark 39 = .ok (.aaload, 1) := dk_50 (dk_at dksX1_mark_1 17 rfl rfl)
theorem dX1_mark_40 : decode cX1_mark 40 = .ok (.aload_n 0, 1) := dk_42 (dk_at dksX1_mark_1 18 rfl rfl)
theorem dX1_mark_41 : decode cX1_mark 41 = .ok (.getfield 33, 3) := dk_180 0 33 (dk_at dksX1_mark_1 19 rfl rfl)
theorem dX1_mark_44 : decode cX1_mark 44 = .ok (.invokevirtual 360, 3) := dk_182 1 104 (dk_at dksX1_mark_2 0 rfl rfl)
theorem dX1_mark_47 : decode cX1_mark 47 = .ok (.aload_n 0, 1) := dk_42 (dk_at dksX1_mark_2 3 rfl rfl)
theorem dX1_mark_48 : decode cX1_mark 48 = .ok (.dup, 1) := dk_89 (dk_at dksX1_mark_2 4 rfl rfl)
theorem dX1_mark_49 : decode cX1_mark 49 = .ok (.getfield 139, 3) := dk_180 0 139 (dk_at dksX1_mark_2 5 rfl rfl)
theorem dX1_mark_52 : decode cX1_mark 52 = .ok (.iconst 1, 1) := dk_4 (dk_at dksX1_mark_2 8 rfl rfl)
theorem dX1_mark_53 : decode cX1_mark 53 = .ok (.iadd, 1) := dk_96 (dk_at dksX1_mark_2 9 rfl rfl)
theorem dX1_mark_54 : decode cX1_mark 54 = .ok (.putfield 139, 3) := dk_181 0 139 (dk_at dksX1_mark_2 10 rfl rfl)
theorem dX1_mark_57 : decode cX1_mark 57 = .ok (.aload_n 0, 1) := dk_42 (dk_at dksX1_mark_2 13 rfl rfl)
theorem dX1_mark_58 : decode cX1_mark 58 = .ok (.getfield 139, 3) := dk_180 0 139 (dk_at dksX1_mark_2 14 rfl rfl)
theorem dX1_mark_61 : decode cX1_mark 61 = .ok (.iconst 1, 1) := dk_4 (dk_at dksX1_mark_2 17 rfl rfl)
theorem dX1_mark_62 : decode cX1_mark 62 = .ok (.isub, 1) := dk_100 (dk_at dksX1_mark_2 18 rfl rfl)
theorem dX1_mark_63 : decode cX1_mark 63 = .ok (.ireturn, 1) := dk_172 (dk_at dksX1_mark_2 19 rfl rfl)
abbrev cX1_back : ByteArray := prog_1_method_72_code
def yX1_back : MethodName := ⟨RX1, "back", "(I)Z"⟩
def dkwX1_back_2 : List UInt8 := [172]
abbrev dktX1_back_2 : List UInt8 := dkwX1_back_2 ++ []
def dkwX1_back_1 : List UInt8 := [154, 0, 5, 3, 172, 42, 180, 0, 33, 42, 180, 0, 87, 27, 50, 182, 1, 104, 42, 3, 181, 0, 136, 4]
abbrev dktX1_back_1 : List UInt8 := dkwX1_back_1 ++ dktX1_back_2
def dkwX1_back_0 : List UInt8 := [42, 27, 3, 42, 180, 0, 139, 4, 100, 184, 0, 103, 153, 0, 7, 3, 167, 0, 4, 4, 182, 1, 108]
abbrev dktX1_back_0 : List UInt8 := dkwX1_back_0 ++ dktX1_back_1
theorem dksX1_back_0 : cX1_back.data.toList.drop 0 = dktX1_back_0 := by decide +kernel
theorem dksX1_back_1 : cX1_back.data.toList.drop 23 = dktX1_back_1 := dk_seg dksX1_back_0 23 rfl rfl
theorem dksX1_back_2 : cX1_back.data.toList.drop 47 = dktX1_back_2 := dk_seg dksX1_back_1 24 rfl rfl
theorem dX1_back_0 : decode cX1_back 0 = .ok (.aload_n 0, 1) := dk_42 (dk_at dksX1_back_0 0 rfl rfl)
theorem dX1_back_1 : decode cX1_back 1 = .ok (.iload_n 1, 1) := dk_27 (dk_at dksX1_back_0 1 rfl rfl)
theorem dX1_back_2 : decode cX1_back 2 = .ok (.iconst 0, 1) := dk_3 (dk_at dksX1_back_0 2 rfl rfl)
theorem dX1_back_3 : decode cX1_back 3 = .ok (.aload_n 0, 1) := dk_42 (dk_at dksX1_back_0 3 rfl rfl)
theorem dX1_back_4 : decode cX1_back 4 = .ok (.getfield 139, 3) := dk_180 0 139 (dk_at dksX1_back_0 4 rfl rfl)
theorem dX1_back_7 : decode cX1_back 7 = .ok (.iconst 1, 1) := dk_4 (dk_at dksX1_back_0 7 rfl rfl)
theorem dX1_back_8 : decode cX1_back 8 = .ok (.isub, 1) := dk_100 (dk_at dksX1_back_0 8 rfl rfl)
theorem dX1_back_9 : decode cX1_back 9 = .ok (.invokestatic 103, 3) := dk_184 0 103 (dk_at dksX1_back_0 9 rfl rfl)
theorem dX1_back_12 : decode cX1_back 12 = .ok (.ifCond .eq 7, 3) := dk_153 0 7 (dk_at dksX1_back_0 12 rfl rfl)
theorem dX1_back_15 : decode cX1_back 15 = .ok (.iconst 0, 1) := dk_3 (dk_at dksX1_back_0 15 rfl rfl)
theorem dX1_back_16 : decode cX1_back 16 = .ok (.goto 4, 3) := dk_167 0 4 (dk_at dksX1_back_0 16 rfl rfl)
theorem dX1_back_19 : decode cX1_back 19 = .ok (.iconst 1, 1) := dk_4 (dk_at dksX1_back_0 19 rfl rfl)
theorem dX1_back_20 : decode cX1_back 20 = .ok (.invokevirtual 364, 3) := dk_182 1 108 (dk_at dksX1_back_0 20 rfl rfl)
theorem dX1_back_23 : decode cX1_back 23 = .ok (.ifCond .ne 5, 3) := dk_154 0 5 (dk_at dksX1_back_1 0 rfl rfl)
theorem dX1_back_26 : decode cX1_back 26 = .ok (.iconst 0, 1) := dk_3 (dk_at dksX1_back_1 3 rfl rfl)
theorem dX1_back_27 : decode cX1_back 27 = .ok (.ireturn, 1) := dk_172 (dk_at dksX1_back_1 4 rfl rfl)
theorem dX1_back_28 : decode cX1_back 28 = .ok (.aload_n 0, 1) := dk_42 (dk_at dksX1_back_1 5 rfl rfl)
theorem dX1_back_29 : decode cX1_back 29 = .ok (.getfield 33, 3) := dk_180 0 33 (dk_at dksX1_back_1 6 rfl rfl)
theorem dX1_back_32 : decode cX1_back 32 = .ok (.aload_n 0, 1) := dk_42 (dk_at dksX1_back_1 9 rfl rfl)
theorem dX1_back_33 : decode cX1_back 33 = .ok (.getfield 87, 3) := dk_180 0 87 (dk_at dksX1_back_1 10 rfl rfl)
theorem dX1_back_36 : decode cX1_back 36 = .ok (.iload_n 1, 1) := dk_27 (dk_at dksX1_back_1 13 rfl rfl)
theorem dX1_back_37 : decode cX1_back 37 = .ok (.aaload, 1) := dk_50 (dk_at dksX1_back_1 14 rfl rfl)
theorem dX1_back_38 : decode cX1_back 38 = .ok (.invokevirtual 360, 3) := dk_182 1 104 (dk_at dksX1_back_1 15 rfl rfl)
theorem dX1_back_41 : decode cX1_back 41 = .ok (.aload_n 0, 1) := dk_42 (dk_at dksX1_back_1 18 rfl rfl)
theorem dX1_back_42 : decode cX1_back 42 = .ok (.iconst 0, 1) := dk_3 (dk_at dksX1_back_1 19 rfl rfl)
theorem dX1_back_43 : decode cX1_back 43 = .ok (.putfield 136, 3) := dk_181 0 136 (dk_at dksX1_back_1 20 rfl rfl)
theorem dX1_back_46 : decode cX1_back 46 = .ok (.iconst 1, 1) := dk_4 (dk_at dksX1_back_1 23 rfl rfl)
theorem dX1_back_47 : decode cX1_back 47 = .ok (.ireturn, 1) := dk_172 (dk_at dksX1_back_2 0 rfl rfl)
abbrev cX1_size : ByteArray := prog_1_method_74_code
def yX1_size : MethodName := ⟨RX1, "size", "(I)I"⟩
def dkwX1_size_6 : List UInt8 := [42, 180, 0, 33, 180, 0, 231, 172, 42, 180, 0, 136, 172, 42, 180, 0, 139, 172, 2, 172]
abbrev dktX1_size_6 : List UInt8 := dkwX1_size_6 ++ []
def dkwX1_size_5 : List UInt8 := [42, 180, 0, 118, 180, 1, 70, 172, 42, 180, 0, 118, 180, 1, 127, 172, 42, 180, 0, 118, 180, 1, 78, 172]
abbrev dktX1_size_5 : List UInt8 := dkwX1_size_5 ++ dktX1_size_6
def dkwX1_size_4 : List UInt8 := [42, 180, 0, 118, 180, 0, 147, 172, 42, 180, 0, 118, 180, 0, 150, 172, 42, 180, 0, 118, 180, 0, 142, 172]
abbrev dktX1_size_4 : List UInt8 := dkwX1_size_4 ++ dktX1_size_5
def dkwX1_size_3 : List UInt8 := [42, 180, 0, 118, 180, 1, 46, 172, 42, 180, 0, 118, 180, 1, 95, 172, 42, 180, 0, 118, 180, 1, 16, 172]
abbrev dktX1_size_3 : List UInt8 := dkwX1_size_3 ++ dktX1_size_4
def dkwX1_size_2 : List UInt8 := [170, 0, 0, 0, 151, 0, 0, 0, 0, 0, 0, 0, 11, 0, 0, 0, 61, 0, 0, 0, 69, 0, 0, 0, 77, 0, 0, 0, 85, 0, 0, 0, 93, 0, 0, 0, 101, 0, 0, 0, 109, 0, 0, 0, 117, 0, 0, 0, 125, 0, 0, 0, 133, 0, 0, 0, 141, 0, 0, 0, 146]
abbrev dktX1_size_2 : List UInt8 := dkwX1_size_2 ++ dktX1_size_3
def dkwX1_size_1 : List UInt8 := [184, 0, 103, 153, 0, 7, 3, 167, 0, 4, 2, 172, 27]
abbrev dktX1_size_1 : List UInt8 := dkwX1_size_1 ++ dktX1_size_2
def dkwX1_size_0 : List UInt8 := [27, 16, 12, 160, 0, 8, 42, 180, 0, 96, 172, 42, 180, 0, 118, 199, 0, 19, 27, 3, 16, 11]
abbrev dktX1_size_0 : List UInt8 := dkwX1_size_0 ++ dktX1_size_1
theorem dksX1_size_0 : cX1_size.data.toList.drop 0 = dktX1_size_0 := by decide +kernel
theorem dksX1_size_1 : cX1_size.data.toList.drop 22 = dktX1_size_1 := dk_seg dksX1_size_0 22 rfl rfl
theorem dksX1_size_2 : cX1_size.data.toList.drop 35 = dktX1_size_2 := dk_seg dksX1_size_1 13 rfl rfl
theorem dksX1_size_3 : cX1_size.data.toList.drop 96 = dktX1_size_3 := dk_seg dksX1_size_2 61 rfl rfl
theorem dksX1_size_4 : cX1_size.data.toList.drop 120 = dktX1_size_4 := dk_seg dksX1_size_3 24 rfl rfl
theorem dksX1_size_5 : cX1_size.data.toList.drop 144 = dktX1_size_5 := dk_seg dksX1_size_4 24 rfl rfl
theorem dksX1_size_6 : cX1_size.data.toList.drop 168 = dktX1_size_6 := dk_seg dksX1_size_5 24 rfl rfl
theorem dX1_size_0 : decode cX1_size 0 = .ok (.iload_n 1, 1) := dk_27 (dk_at dksX1_size_0 0 rfl rfl)
theorem dX1_size_1 : decode cX1_size 1 = .ok (.bipush 12, 2) := dk_16 12 (dk_at dksX1_size_0 1 rfl rfl)
theorem dX1_size_3 : decode cX1_size 3 = .ok (.if_icmp .ne 8, 3) := dk_160 0 8 (dk_at dksX1_size_0 3 rfl rfl)
theorem dX1_size_6 : decode cX1_size 6 = .ok (.aload_n 0, 1) := dk_42 (dk_at dksX1_size_0 6 rfl rfl)
theorem dX1_size_7 : decode cX1_size 7 = .ok (.getfield 96, 3) := dk_180 0 96 (dk_at dksX1_size_0 7 rfl rfl)
theorem dX1_size_10 : decode cX1_size 10 = .ok (.ireturn, 1) := dk_172 (dk_at dksX1_size_0 10 rfl rfl)
theorem dX1_size_11 : decode cX1_size 11 = .ok (.aload_n 0, 1) := dk_42 (dk_at dksX1_size_0 11 rfl rfl)
theorem dX1_size_12 : decode cX1_size 12 = .ok (.getfield 118, 3) := dk_180 0 118 (dk_at dksX1_size_0 12 rfl rfl)
theorem dX1_size_15 : decode cX1_size 15 = .ok (.ifnonnull 19, 3) := dk_199 0 19 (dk_at dksX1_size_0 15 rfl rfl)
theorem dX1_size_18 : decode cX1_size 18 = .ok (.iload_n 1, 1) := dk_27 (dk_at dksX1_size_0 18 rfl rfl)
theorem dX1_size_19 : decode cX1_size 19 = .ok (.iconst 0, 1) := dk_3 (dk_at dksX1_size_0 19 rfl rfl)
theorem dX1_size_20 : decode cX1_size 20 = .ok (.bipush 11, 2) := dk_16 11 (dk_at dksX1_size_0 20 rfl rfl)
theorem dX1_size_22 : decode cX1_size 22 = .ok (.invokestatic 103, 3) := dk_184 0 103 (dk_at dksX1_size_1 0 rfl rfl)
theorem dX1_size_25 : decode cX1_size 25 = .ok (.ifCond .eq 7, 3) := dk_153 0 7 (dk_at dksX1_size_1 3 rfl rfl)
theorem dX1_size_28 : decode cX1_size 28 = .ok (.iconst 0, 1) := dk_3 (dk_at dksX1_size_1 6 rfl rfl)
theorem dX1_size_29 : decode cX1_size 29 = .ok (.goto 4, 3) := dk_167 0 4 (dk_at dksX1_size_1 7 rfl rfl)
theorem dX1_size_32 : decode cX1_size 32 = .ok (.iconst (-1), 1) := dk_2 (dk_at dksX1_size_1 10 rfl rfl)
theorem dX1_size_33 : decode cX1_size 33 = .ok (.ireturn, 1) := dk_172 (dk_at dksX1_size_1 11 rfl rfl)
theorem dX1_size_34 : decode cX1_size 34 = .ok (.iload_n 1, 1) := dk_27 (dk_at dksX1_size_1 12 rfl rfl)
theorem dX1_size_35 : decode cX1_size 35 = .ok (.tableswitch 151 0 11 #[61, 69, 77, 85, 93, 101, 109, 117, 125, 133, 141, 146], 61) := by decide +kernel
theorem dX1_size_96 : decode cX1_size 96 = .ok (.aload_n 0, 1) := dk_42 (dk_at dksX1_size_3 0 rfl rfl)
theorem dX1_size_97 : decode cX1_size 97 = .ok (.getfield 118, 3) := dk_180 0 118 (dk_at dksX1_size_3 1 rfl rfl)
theorem dX1_size_100 : decode cX1_size 100 = .ok (.getfield 302, 3) := dk_180 1 46 (dk_at dksX1_size_3 4 rfl rfl)
theorem dX1_size_103 : decode cX1_size 103 = .ok (.ireturn, 1) := dk_172 (dk_at dksX1_size_3 7 rfl rfl)
theorem dX1_size_104 : decode cX1_size 104 = .ok (.aload_n 0, 1) := dk_42 (dk_at dksX1_size_3 8 rfl rfl)
theorem dX1_size_105 : decode cX1_size 105 = .ok (.getfield 118, 3) := dk_180 0 118 (dk_at dksX1_size_3 9 rfl rfl)
theorem dX1_size_108 : decode cX1_size 108 = .ok (.getfield 351, 3) := dk_180 1 95 (dk_at dksX1_size_3 12 rfl rfl)
theorem dX1_size_111 : decode cX1_size 111 = .ok (.ireturn, 1) := dk_172 (dk_at dksX1_size_3 15 rfl rfl)
theorem dX1_size_112 : decode cX1_size 112 = .ok (.aload_n 0, 1) := dk_42 (dk_at dksX1_size_3 16 rfl rfl)
theorem dX1_size_113 : decode cX1_size 113 = .ok (.getfield 118, 3) := dk_180 0 118 (dk_at dksX1_size_3 17 rfl rfl)
theorem dX1_size_116 : decode cX1_size 116 = .ok (.getfield 272, 3) := dk_180 1 16 (dk_at dksX1_size_3 20 rfl rfl)
theorem dX1_size_119 : decode cX1_size 119 = .ok (.ireturn, 1) := dk_172 (dk_at dksX1_size_3 23 rfl rfl)
theorem dX1_size_120 : decode cX1_size 120 = .ok (.aload_n 0, 1) := dk_42 (dk_at dksX1_size_4 0 rfl rfl)
theorem dX1_size_121 : decode cX1_size 121 = .ok (.getfield 118, 3) := dk_180 0 118 (dk_at dksX1_size_4 1 rfl rfl)
theorem dX1_size_124 : decode cX1_size 124 = .ok (.getfield 147, 3) := dk_180 0 147 (dk_at dksX1_size_4 4 rfl rfl)
theorem dX1_size_127 : decode cX1_size 127 = .ok (.ireturn, 1) := dk_172 (dk_at dksX1_size_4 7 rfl rfl)
theorem dX1_size_128 : decode cX1_size 128 = .ok (.aload_n 0, 1) := dk_42 (dk_at dksX1_size_4 8 rfl rfl)
theorem dX1_size_129 : decode cX1_size 129 = .ok (.getfield 118, 3) := dk_180 0 118 (dk_at dksX1_size_4 9 rfl rfl)
theorem dX1_size_132 : decode cX1_size 132 = .ok (.getfield 150, 3) := dk_180 0 150 (dk_at dksX1_size_4 12 rfl rfl)
theorem dX1_size_135 : decode cX1_size 135 = .ok (.ireturn, 1) := dk_172 (dk_at dksX1_size_4 15 rfl rfl)
theorem dX1_size_136 : decode cX1_size 136 = .ok (.aload_n 0, 1) := dk_42 (dk_at dksX1_size_4 16 rfl rfl)
theorem dX1_size_137 : decode cX1_size 137 = .ok (.getfield 118, 3) := dk_180 0 118 (dk_at dksX1_size_4 17 rfl rfl)
theorem dX1_size_140 : decode cX1_size 140 = .ok (.getfield 142, 3) := dk_180 0 142 (dk_at dksX1_size_4 20 rfl rfl)
theorem dX1_size_143 : decode cX1_size 143 = .ok (.ireturn, 1) := dk_172 (dk_at dksX1_size_4 23 rfl rfl)
theorem dX1_size_144 : decode cX1_size 144 = .ok (.aload_n 0, 1) := dk_42 (dk_at dksX1_size_5 0 rfl rfl)
theorem dX1_size_145 : decode cX1_size 145 = .ok (.getfield 118, 3) := dk_180 0 118 (dk_at dksX1_size_5 1 rfl rfl)
theorem dX1_size_148 : decode cX1_size 148 = .ok (.getfield 326, 3) := dk_180 1 70 (dk_at dksX1_size_5 4 rfl rfl)
theorem dX1_size_151 : decode cX1_size 151 = .ok (.ireturn, 1) := dk_172 (dk_at dksX1_size_5 7 rfl rfl)
theorem dX1_size_152 : decode cX1_size 152 = .ok (.aload_n 0, 1) := dk_42 (dk_at dksX1_size_5 8 rfl rfl)
theorem dX1_size_153 : decode cX1_size 153 = .ok (.getfield 118, 3) := dk_180 0 118 (dk_at dksX1_size_5 9 rfl rfl)
theorem dX1_size_156 : decode cX1_size 156 = .ok (.getfield 383, 3) := dk_180 1 127 (dk_at dksX1_size_5 12 rfl rfl)
theorem dX1_size_159 : decode cX1_size 159 = .ok (.ireturn, 1) := dk_172 (dk_at dksX1_size_5 15 rfl rfl)
theorem dX1_size_160 : decode cX1_size 160 = .ok (.aload_n 0, 1) := dk_42 (dk_at dksX1_size_5 16 rfl rfl)
theorem dX1_size_161 : decode cX1_size 161 = .ok (.getfield 118, 3) := dk_180 0 118 (dk_at dksX1_size_5 17 rfl rfl)
theorem dX1_size_164 : decode cX1_size 164 = .ok (.getfield 334, 3) := dk_180 1 78 (dk_at dksX1_size_5 20 rfl rfl)
theorem dX1_size_167 : decode cX1_size 167 = .ok (.ireturn, 1) := dk_172 (dk_at dksX1_size_5 23 rfl rfl)
theorem dX1_size_168 : decode cX1_size 168 = .ok (.aload_n 0, 1) := dk_42 (dk_at dksX1_size_6 0 rfl rfl)
theorem dX1_size_169 : decode cX1_size 169 = .ok (.getfield 33, 3) := dk_180 0 33 (dk_at dksX1_size_6 1 rfl rfl)
theorem dX1_size_172 : decode cX1_size 172 = .ok (.getfield 231, 3) := dk_180 0 231 (dk_at dksX1_size_6 4 rfl rfl)
theorem dX1_size_175 : decode cX1_size 175 = .ok (.ireturn, 1) := dk_172 (dk_at dksX1_size_6 7 rfl rfl)
theorem dX1_size_176 : decode cX1_size 176 = .ok (.aload_n 0, 1) := dk_42 (dk_at dksX1_size_6 8 rfl rfl)
theorem dX1_size_177 : decode cX1_size 177 = .ok (.getfield 136, 3) := dk_180 0 136 (dk_at dksX1_size_6 9 rfl rfl)
theorem dX1_size_180 : decode cX1_size 180 = .ok (.ireturn, 1) := dk_172 (dk_at dksX1_size_6 12 rfl rfl)
theorem dX1_size_181 : decode cX1_size 181 = .ok (.aload_n 0, 1) := dk_42 (dk_at dksX1_size_6 13 rfl rfl)
theorem dX1_size_182 : decode cX1_size 182 = .ok (.getfield 139, 3) := dk_180 0 139 (dk_at dksX1_size_6 14 rfl rfl)
theorem dX1_size_185 : decode cX1_size 185 = .ok (.ireturn, 1) := dk_172 (dk_at dksX1_size_6 17 rfl rfl)
theorem dX1_size_186 : decode cX1_size 186 = .ok (.iconst (-1), 1) := dk_2 (dk_at dksX1_size_6 18 rfl rfl)
theorem dX1_size_187 : decode cX1_size 187 = .ok (.ireturn, 1) := dk_172 (dk_at dksX1_size_6 19 rfl rfl)
abbrev cX1_trouble : ByteArray := prog_1_method_75_code
def yX1_trouble : MethodName := ⟨RX1, "trouble", "()I"⟩
theorem dX1_trouble_0 : decode cX1_trouble 0 = .ok (.aload_n 0, 1) := by decide +kernel
theorem dX1_trouble_1 : decode cX1_trouble 1 = .ok (.getfield 90, 3) := by decide +kernel
theorem dX1_trouble_4 : decode cX1_trouble 4 = .ok (.ireturn, 1) := by decide +kernel
abbrev cX1_led : ByteArray := prog_1_method_73_code
def yX1_led : MethodName := ⟨RX1, "led", "(I)I"⟩
def dkwX1_led_2 : List UInt8 := [28, 27, 160, 0, 5, 29, 172, 132, 2, 1, 132, 3, 1, 167, 255, 200, 187, 1, 124, 89, 183, 1, 126, 191]
abbrev dktX1_led_2 : List UInt8 := dkwX1_led_2 ++ []
def dkwX1_led_1 : List UInt8 := [180, 0, 118, 180, 0, 157, 29, 50, 42, 180, 0, 33, 180, 0, 231, 182, 0, 255, 154, 0, 6, 167, 0, 13]
abbrev dktX1_led_1 : List UInt8 := dkwX1_led_1 ++ dktX1_led_2
def dkwX1_led_0 : List UInt8 := [3, 61, 3, 62, 42, 180, 0, 118, 198, 0, 55, 29, 42, 180, 0, 118, 180, 0, 142, 162, 0, 44, 42]
abbrev dktX1_led_0 : List UInt8 := dkwX1_led_0 ++ dktX1_led_1
theorem dksX1_led_0 : cX1_led.data.toList.drop 0 = dktX1_led_0 := by decide +kernel
theorem dksX1_led_1 : cX1_led.data.toList.drop 23 = dktX1_led_1 := dk_seg dksX1_led_0 23 rfl rfl
theorem dksX1_led_2 : cX1_led.data.toList.drop 47 = dktX1_led_2 := dk_seg dksX1_led_1 24 rfl rfl
theorem dX1_led_0 : decode cX1_led 0 = .ok (.iconst 0, 1) := dk_3 (dk_at dksX1_led_0 0 rfl rfl)
theorem dX1_led_1 : decode cX1_led 1 = .ok (.istore_n 2, 1) := dk_61 (dk_at dksX1_led_0 1 rfl rfl)
theorem dX1_led_2 : decode cX1_led 2 = .ok (.iconst 0, 1) := dk_3 (dk_at dksX1_led_0 2 rfl rfl)
theorem dX1_led_3 : decode cX1_led 3 = .ok (.istore_n 3, 1) := dk_62 (dk_at dksX1_led_0 3 rfl rfl)
theorem dX1_led_4 : decode cX1_led 4 = .ok (.aload_n 0, 1) := dk_42 (dk_at dksX1_led_0 4 rfl rfl)
theorem dX1_led_5 : decode cX1_led 5 = .ok (.getfield 118, 3) := dk_180 0 118 (dk_at dksX1_led_0 5 rfl rfl)
theorem dX1_led_8 : decode cX1_led 8 = .ok (.ifnull 55, 3) := dk_198 0 55 (dk_at dksX1_led_0 8 rfl rfl)
theorem dX1_led_11 : decode cX1_led 11 = .ok (.iload_n 3, 1) := dk_29 (dk_at dksX1_led_0 11 rfl rfl)
theorem dX1_led_12 : decode cX1_led 12 = .ok (.aload_n 0, 1) := dk_42 (dk_at dksX1_led_0 12 rfl rfl)
theorem dX1_led_13 : decode cX1_led 13 = .ok (.getfield 118, 3) := dk_180 0 118 (dk_at dksX1_led_0 13 rfl rfl)
theorem dX1_led_16 : decode cX1_led 16 = .ok (.getfield 142, 3) := dk_180 0 142 (dk_at dksX1_led_0 16 rfl rfl)
theorem dX1_led_19 : decode cX1_led 19 = .ok (.if_icmp .ge 44, 3) := dk_162 0 44 (dk_at dksX1_led_0 19 rfl rfl)
theorem dX1_led_22 : decode cX1_led 22 = .ok (.aload_n 0, 1) := dk_42 (dk_at dksX1_led_0 22 rfl rfl)
theorem dX1_led_23 : decode cX1_led 23 = .ok (.getfield 118, 3) := dk_180 0 118 (dk_at dksX1_led_1 0 rfl rfl)
theorem dX1_led_26 : decode cX1_led 26 = .ok (.getfield 157, 3) := dk_180 0 157 (dk_at dksX1_led_1 3 rfl rfl)
theorem dX1_led_29 : decode cX1_led 29 = .ok (.iload_n 3, 1) := dk_29 (dk_at dksX1_led_1 6 rfl rfl)
theorem dX1_led_30 : decode cX1_led 30 = .ok (.aaload, 1) := dk_50 (dk_at dksX1_led_1 7 rfl rfl)
theorem dX1_led_31 : decode cX1_led 31 = .ok (.aload_n 0, 1) := dk_42 (dk_at dksX1_led_1 8 rfl rfl)
theorem dX1_led_32 : decode cX1_led 32 = .ok (.getfield 33, 3) := dk_180 0 33 (dk_at dksX1_led_1 9 rfl rfl)
theorem dX1_led_35 : decode cX1_led 35 = .ok (.getfield 231, 3) := dk_180 0 231 (dk_at dksX1_led_1 12 rfl rfl)
theorem dX1_led_38 : decode cX1_led 38 = .ok (.invokevirtual 255, 3) := dk_182 0 255 (dk_at dksX1_led_1 15 rfl rfl)
theorem dX1_led_41 : decode cX1_led 41 = .ok (.ifCond .ne 6, 3) := dk_154 0 6 (dk_at dksX1_led_1 18 rfl rfl)
theorem dX1_led_44 : decode cX1_led 44 = .ok (.goto 13, 3) := dk_167 0 13 (dk_at dksX1_led_1 21 rfl rfl)
theorem dX1_led_47 : decode cX1_led 47 = .ok (.iload_n 2, 1) := dk_28 (dk_at dksX1_led_2 0 rfl rfl)
theorem dX1_led_48 : decode cX1_led 48 = .ok (.iload_n 1, 1) := dk_27 (dk_at dksX1_led_2 1 rfl rfl)
theorem dX1_led_49 : decode cX1_led 49 = .ok (.if_icmp .ne 5, 3) := dk_160 0 5 (dk_at dksX1_led_2 2 rfl rfl)
theorem dX1_led_52 : decode cX1_led 52 = .ok (.iload_n 3, 1) := dk_29 (dk_at dksX1_led_2 5 rfl rfl)
theorem dX1_led_53 : decode cX1_led 53 = .ok (.ireturn, 1) := dk_172 (dk_at dksX1_led_2 6 rfl rfl)
theorem dX1_led_54 : decode cX1_led 54 = .ok (.iinc 2 1, 3) := dk_132 2 1 (dk_at dksX1_led_2 7 rfl rfl)
theorem dX1_led_57 : decode cX1_led 57 = .ok (.iinc 3 1, 3) := dk_132 3 1 (dk_at dksX1_led_2 10 rfl rfl)
theorem dX1_led_60 : decode cX1_led 60 = .ok (.goto (-56), 3) := dk_167 255 200 (dk_at dksX1_led_2 13 rfl rfl)
theorem dX1_led_63 : decode cX1_led 63 = .ok (.new 380, 3) := dk_187 1 124 (dk_at dksX1_led_2 16 rfl rfl)
theorem dX1_led_66 : decode cX1_led 66 = .ok (.dup, 1) := dk_89 (dk_at dksX1_led_2 19 rfl rfl)
theorem dX1_led_67 : decode cX1_led 67 = .ok (.invokespecial 382, 3) := dk_183 1 126 (dk_at dksX1_led_2 20 rfl rfl)
theorem dX1_led_70 : decode cX1_led 70 = .ok (.athrow, 1) := dk_191 (dk_at dksX1_led_2 23 rfl rfl)
theorem q120 : (Jvm.Cond.initialized "SaltedGate") ∈ lw_all := lw_g (lw_at lw_m1 1 rfl) rfl
theorem q159 : (Jvm.Cond.instantiable "SaltedGate" (20 : Nat)) ∈ lw_all := lw_g (lw_at lw_m1 40 rfl) rfl
theorem q161 : (Jvm.Cond.instanceMethod ({ cls := "SaltedGate", name := "<init>", desc := "()V" } : Jvm.MethodName)) ∈ lw_all := lw_g (lw_at lw_m1 42 rfl) rfl
theorem q162 : (Jvm.Cond.code ({ cls := "SaltedGate", name := "<init>", desc := "()V" } : Jvm.MethodName) prog_1_method_5_code (2 : Nat) (Option.none : Option Jvm.ClassFile.FieldType)) ∈ lw_all := lw_g (lw_at lw_m1 43 rfl) rfl
theorem q163 : (Jvm.Cond.methodLink "SaltedGate" (7 : Nat) ({ cls := "java/lang/Object", name := "<init>", desc := "()V" } : Jvm.MethodName)) ∈ lw_all := lw_g (lw_at lw_m1 44 rfl) rfl
theorem q166 : (Jvm.Cond.classLink "SaltedGate" (17 : Nat) "SaltedGate$Reader") ∈ lw_all := lw_g (lw_at lw_m1 47 rfl) rfl
theorem q168 : (Jvm.Cond.methodLink "SaltedGate" (19 : Nat) ({ cls := "SaltedGate$Reader", name := "<init>", desc := "([B)V" } : Jvm.MethodName)) ∈ lw_all := lw_g (lw_at lw_m1 49 rfl) rfl
theorem q225 : (Jvm.Cond.fieldLink "SaltedGate" (124 : Nat) "SaltedGate$Refused" "fault" "I") ∈ lw_all := lw_g (lw_at lw_m1 106 rfl) rfl
theorem q227 : (Jvm.Cond.fieldLink "SaltedGate" (125 : Nat) "SaltedGate$Refused" "place" "I") ∈ lw_all := lw_g (lw_at lw_m1 108 rfl) rfl
theorem q278 : (Jvm.Cond.classLink "SaltedGate" (30 : Nat) "SaltedGate$Load") ∈ lw_all := lw_g (lw_at lw_m1 159 rfl) rfl
theorem q280 : (Jvm.Cond.methodLinkNest "SaltedGate" (32 : Nat) ({ cls := "SaltedGate$Load", name := "<init>", desc := "()V" } : Jvm.MethodName) "SaltedGate") ∈ lw_tbl := lw_at lw_m1 161 rfl
theorem q286 : (Jvm.Cond.fieldLink "SaltedGate" (182 : Nat) "SaltedGate$Load" "state" "[I") ∈ lw_all := lw_g (lw_at lw_m1 167 rfl) rfl
theorem q288 : (Jvm.Cond.fieldLink "SaltedGate" (370 : Nat) "SaltedGate$Load" "eaten" "[I") ∈ lw_all := lw_g (lw_at lw_m1 169 rfl) rfl
theorem q290 : (Jvm.Cond.fieldLink "SaltedGate" (208 : Nat) "SaltedGate$Load" "paid" "[I") ∈ lw_all := lw_g (lw_at lw_m1 171 rfl) rfl
theorem q295 : (Jvm.Cond.fieldLink "SaltedGate" (186 : Nat) "SaltedGate$Load" "hidden" "I") ∈ lw_all := lw_g (lw_at lw_m1 176 rfl) rfl
theorem q297 : (Jvm.Cond.fieldLink "SaltedGate" (231 : Nat) "SaltedGate$Load" "day" "I") ∈ lw_all := lw_g (lw_at lw_m1 178 rfl) rfl
theorem q312 : (Jvm.Cond.classLink "SaltedGate" (40 : Nat) "SaltedGate$Rates") ∈ lw_all := lw_g (lw_at lw_m1 193 rfl) rfl
theorem q314 : (Jvm.Cond.methodLinkNest "SaltedGate" (42 : Nat) ({ cls := "SaltedGate$Rates", name := "<init>", desc := "()V" } : Jvm.MethodName) "SaltedGate") ∈ lw_tbl := lw_at lw_m1 195 rfl
theorem q322 : (Jvm.Cond.classLink "SaltedGate" (47 : Nat) "SaltedGate$Others") ∈ lw_all := lw_g (lw_at lw_m1 203 rfl) rfl
theorem q324 : (Jvm.Cond.methodLinkNest "SaltedGate" (49 : Nat) ({ cls := "SaltedGate$Others", name := "<init>", desc := "()V" } : Jvm.MethodName) "SaltedGate") ∈ lw_tbl := lw_at lw_m1 205 rfl
theorem q329 : (Jvm.Cond.classLink "SaltedGate" (53 : Nat) "SaltedGate$Course") ∈ lw_all := lw_g (lw_at lw_m1 210 rfl) rfl
theorem q331 : (Jvm.Cond.methodLinkNest "SaltedGate" (55 : Nat) ({ cls := "SaltedGate$Course", name := "<init>", desc := "()V" } : Jvm.MethodName) "SaltedGate") ∈ lw_tbl := lw_at lw_m1 212 rfl
theorem q359 : (Jvm.Cond.classLink "SaltedGate" (63 : Nat) "SaltedGate$Crumbs") ∈ lw_all := lw_g (lw_at lw_m2 0 rfl) rfl
theorem q361 : (Jvm.Cond.methodLinkNest "SaltedGate" (65 : Nat) ({ cls := "SaltedGate$Crumbs", name := "<init>", desc := "()V" } : Jvm.MethodName) "SaltedGate") ∈ lw_tbl := lw_at lw_m2 2 rfl
theorem q370 : (Jvm.Cond.fieldLink "SaltedGate" (339 : Nat) "SaltedGate$Crumbs" "many" "I") ∈ lw_all := lw_g (lw_at lw_m2 11 rfl) rfl
theorem q382 : (Jvm.Cond.classLink "SaltedGate" (70 : Nat) "SaltedGate$Eating") ∈ lw_all := lw_g (lw_at lw_m2 23 rfl) rfl
theorem q384 : (Jvm.Cond.methodLinkNest "SaltedGate" (72 : Nat) ({ cls := "SaltedGate$Eating", name := "<init>", desc := "()V" } : Jvm.MethodName) "SaltedGate") ∈ lw_tbl := lw_at lw_m2 25 rfl
theorem q410 : (Jvm.Cond.classLink "SaltedGate" (77 : Nat) "SaltedGate$Hiding") ∈ lw_all := lw_g (lw_at lw_m2 51 rfl) rfl
theorem q412 : (Jvm.Cond.methodLinkNest "SaltedGate" (79 : Nat) ({ cls := "SaltedGate$Hiding", name := "<init>", desc := "()V" } : Jvm.MethodName) "SaltedGate") ∈ lw_tbl := lw_at lw_m2 53 rfl
theorem q422 : (Jvm.Cond.fieldLink "SaltedGate" (13 : Nat) "SaltedGate" "tape" "[B") ∈ lw_all := lw_g (lw_at lw_m2 63 rfl) rfl
theorem q423 : (Jvm.Cond.fieldLink "SaltedGate" (96 : Nat) "SaltedGate" "taped" "I") ∈ lw_all := lw_g (lw_at lw_m2 64 rfl) rfl
theorem q424 : (Jvm.Cond.fieldLink "SaltedGate" (22 : Nat) "SaltedGate" "reader" "LSaltedGate$Reader;") ∈ lw_all := lw_g (lw_at lw_m2 65 rfl) rfl
theorem q425 : (Jvm.Cond.fieldLink "SaltedGate" (118 : Nat) "SaltedGate" "barrier" "LSaltedGate$Barrier;") ∈ lw_all := lw_g (lw_at lw_m2 66 rfl) rfl
theorem q426 : (Jvm.Cond.fieldLink "SaltedGate" (90 : Nat) "SaltedGate" "trouble" "I") ∈ lw_all := lw_g (lw_at lw_m2 67 rfl) rfl
theorem q427 : (Jvm.Cond.fieldLink "SaltedGate" (111 : Nat) "SaltedGate" "fault" "I") ∈ lw_all := lw_g (lw_at lw_m2 68 rfl) rfl
theorem q428 : (Jvm.Cond.fieldLink "SaltedGate" (26 : Nat) "SaltedGate" "where" "I") ∈ lw_all := lw_g (lw_at lw_m2 69 rfl) rfl
theorem q429 : (Jvm.Cond.fieldLink "SaltedGate" (139 : Nat) "SaltedGate" "markMany" "I") ∈ lw_all := lw_g (lw_at lw_m2 70 rfl) rfl
theorem q430 : (Jvm.Cond.fieldLink "SaltedGate" (136 : Nat) "SaltedGate" "undoMany" "I") ∈ lw_all := lw_g (lw_at lw_m2 71 rfl) rfl
theorem q431 : (Jvm.Cond.fieldLink "SaltedGate" (33 : Nat) "SaltedGate" "load" "LSaltedGate$Load;") ∈ lw_all := lw_g (lw_at lw_m2 72 rfl) rfl
theorem q432 : (Jvm.Cond.fieldLink "SaltedGate" (37 : Nat) "SaltedGate" "was" "LSaltedGate$Load;") ∈ lw_all := lw_g (lw_at lw_m2 73 rfl) rfl
theorem q433 : (Jvm.Cond.fieldLink "SaltedGate" (43 : Nat) "SaltedGate" "rates" "LSaltedGate$Law;") ∈ lw_all := lw_g (lw_at lw_m2 74 rfl) rfl
theorem q434 : (Jvm.Cond.fieldLink "SaltedGate" (50 : Nat) "SaltedGate" "others" "LSaltedGate$Law;") ∈ lw_all := lw_g (lw_at lw_m2 75 rfl) rfl
theorem q435 : (Jvm.Cond.fieldLink "SaltedGate" (56 : Nat) "SaltedGate" "plan" "LSaltedGate$Course;") ∈ lw_all := lw_g (lw_at lw_m2 76 rfl) rfl
theorem q436 : (Jvm.Cond.fieldLink "SaltedGate" (60 : Nat) "SaltedGate" "drawn" "LSaltedGate$Course;") ∈ lw_all := lw_g (lw_at lw_m2 77 rfl) rfl
theorem q437 : (Jvm.Cond.fieldLink "SaltedGate" (66 : Nat) "SaltedGate" "crumbs" "LSaltedGate$Crumbs;") ∈ lw_all := lw_g (lw_at lw_m2 78 rfl) rfl
theorem q438 : (Jvm.Cond.fieldLink "SaltedGate" (73 : Nat) "SaltedGate" "eating" "LSaltedGate$Choice;") ∈ lw_all := lw_g (lw_at lw_m2 79 rfl) rfl
theorem q439 : (Jvm.Cond.fieldLink "SaltedGate" (80 : Nat) "SaltedGate" "hiding" "LSaltedGate$Choice;") ∈ lw_all := lw_g (lw_at lw_m2 80 rfl) rfl
theorem q440 : (Jvm.Cond.fieldLink "SaltedGate" (83 : Nat) "SaltedGate" "undone" "[LSaltedGate$Load;") ∈ lw_all := lw_g (lw_at lw_m2 81 rfl) rfl
theorem q441 : (Jvm.Cond.fieldLink "SaltedGate" (87 : Nat) "SaltedGate" "marks" "[LSaltedGate$Load;") ∈ lw_all := lw_g (lw_at lw_m2 82 rfl) rfl
theorem q442 : (Jvm.Cond.laysFinal "SaltedGate" "SaltedGate" "tape" "[B") ∈ lw_all := lw_g (lw_at lw_m2 83 rfl) rfl
theorem q443 : (Jvm.Cond.soleField "SaltedGate" "tape") ∈ lw_all := lw_g (lw_at lw_m2 84 rfl) rfl
theorem q444 : (Jvm.Cond.lays "SaltedGate" "SaltedGate" "taped" "I") ∈ lw_all := lw_g (lw_at lw_m2 85 rfl) rfl
theorem q445 : (Jvm.Cond.soleField "SaltedGate" "taped") ∈ lw_all := lw_g (lw_at lw_m2 86 rfl) rfl
theorem q446 : (Jvm.Cond.laysFinal "SaltedGate" "SaltedGate" "reader" "LSaltedGate$Reader;") ∈ lw_all := lw_g (lw_at lw_m2 87 rfl) rfl
theorem q447 : (Jvm.Cond.soleField "SaltedGate" "reader") ∈ lw_all := lw_g (lw_at lw_m2 88 rfl) rfl
theorem q448 : (Jvm.Cond.lays "SaltedGate" "SaltedGate" "barrier" "LSaltedGate$Barrier;") ∈ lw_all := lw_g (lw_at lw_m2 89 rfl) rfl
theorem q449 : (Jvm.Cond.soleField "SaltedGate" "barrier") ∈ lw_all := lw_g (lw_at lw_m2 90 rfl) rfl
theorem q450 : (Jvm.Cond.lays "SaltedGate" "SaltedGate" "trouble" "I") ∈ lw_all := lw_g (lw_at lw_m2 91 rfl) rfl
theorem q451 : (Jvm.Cond.soleField "SaltedGate" "trouble") ∈ lw_all := lw_g (lw_at lw_m2 92 rfl) rfl
theorem q452 : (Jvm.Cond.lays "SaltedGate" "SaltedGate" "fault" "I") ∈ lw_all := lw_g (lw_at lw_m2 93 rfl) rfl
theorem q453 : (Jvm.Cond.soleField "SaltedGate" "fault") ∈ lw_all := lw_g (lw_at lw_m2 94 rfl) rfl
theorem q454 : (Jvm.Cond.lays "SaltedGate" "SaltedGate" "where" "I") ∈ lw_all := lw_g (lw_at lw_m2 95 rfl) rfl
theorem q455 : (Jvm.Cond.soleField "SaltedGate" "where") ∈ lw_all := lw_g (lw_at lw_m2 96 rfl) rfl
theorem q456 : (Jvm.Cond.lays "SaltedGate" "SaltedGate" "markMany" "I") ∈ lw_all := lw_g (lw_at lw_m2 97 rfl) rfl
theorem q457 : (Jvm.Cond.soleField "SaltedGate" "markMany") ∈ lw_all := lw_g (lw_at lw_m2 98 rfl) rfl
theorem q458 : (Jvm.Cond.lays "SaltedGate" "SaltedGate" "undoMany" "I") ∈ lw_all := lw_g (lw_at lw_m2 99 rfl) rfl
theorem q459 : (Jvm.Cond.soleField "SaltedGate" "undoMany") ∈ lw_all := lw_g (lw_at lw_m2 100 rfl) rfl
theorem q460 : (Jvm.Cond.laysFinal "SaltedGate" "SaltedGate" "load" "LSaltedGate$Load;") ∈ lw_all := lw_g (lw_at lw_m2 101 rfl) rfl
theorem q461 : (Jvm.Cond.soleField "SaltedGate" "load") ∈ lw_all := lw_g (lw_at lw_m2 102 rfl) rfl
theorem q462 : (Jvm.Cond.laysFinal "SaltedGate" "SaltedGate" "was" "LSaltedGate$Load;") ∈ lw_all := lw_g (lw_at lw_m2 103 rfl) rfl
theorem q463 : (Jvm.Cond.soleField "SaltedGate" "was") ∈ lw_all := lw_g (lw_at lw_m2 104 rfl) rfl
theorem q464 : (Jvm.Cond.laysFinal "SaltedGate" "SaltedGate" "rates" "LSaltedGate$Law;") ∈ lw_all := lw_g (lw_at lw_m2 105 rfl) rfl
theorem q465 : (Jvm.Cond.soleField "SaltedGate" "rates") ∈ lw_all := lw_g (lw_at lw_m2 106 rfl) rfl
theorem q466 : (Jvm.Cond.laysFinal "SaltedGate" "SaltedGate" "others" "LSaltedGate$Law;") ∈ lw_all := lw_g (lw_at lw_m2 107 rfl) rfl
theorem q467 : (Jvm.Cond.soleField "SaltedGate" "others") ∈ lw_all := lw_g (lw_at lw_m2 108 rfl) rfl
theorem q468 : (Jvm.Cond.laysFinal "SaltedGate" "SaltedGate" "plan" "LSaltedGate$Course;") ∈ lw_all := lw_g (lw_at lw_m2 109 rfl) rfl
theorem q469 : (Jvm.Cond.soleField "SaltedGate" "plan") ∈ lw_all := lw_g (lw_at lw_m2 110 rfl) rfl
theorem q470 : (Jvm.Cond.laysFinal "SaltedGate" "SaltedGate" "drawn" "LSaltedGate$Course;") ∈ lw_all := lw_g (lw_at lw_m2 111 rfl) rfl
theorem q471 : (Jvm.Cond.soleField "SaltedGate" "drawn") ∈ lw_all := lw_g (lw_at lw_m2 112 rfl) rfl
theorem q472 : (Jvm.Cond.laysFinal "SaltedGate" "SaltedGate" "crumbs" "LSaltedGate$Crumbs;") ∈ lw_all := lw_g (lw_at lw_m2 113 rfl) rfl
theorem q473 : (Jvm.Cond.soleField "SaltedGate" "crumbs") ∈ lw_all := lw_g (lw_at lw_m2 114 rfl) rfl
theorem q474 : (Jvm.Cond.laysFinal "SaltedGate" "SaltedGate" "eating" "LSaltedGate$Choice;") ∈ lw_all := lw_g (lw_at lw_m2 115 rfl) rfl
theorem q475 : (Jvm.Cond.soleField "SaltedGate" "eating") ∈ lw_all := lw_g (lw_at lw_m2 116 rfl) rfl
theorem q476 : (Jvm.Cond.laysFinal "SaltedGate" "SaltedGate" "hiding" "LSaltedGate$Choice;") ∈ lw_all := lw_g (lw_at lw_m2 117 rfl) rfl
theorem q477 : (Jvm.Cond.soleField "SaltedGate" "hiding") ∈ lw_all := lw_g (lw_at lw_m2 118 rfl) rfl
theorem q478 : (Jvm.Cond.laysFinal "SaltedGate" "SaltedGate" "undone" "[LSaltedGate$Load;") ∈ lw_all := lw_g (lw_at lw_m2 119 rfl) rfl
theorem q479 : (Jvm.Cond.soleField "SaltedGate" "undone") ∈ lw_all := lw_g (lw_at lw_m2 120 rfl) rfl
theorem q480 : (Jvm.Cond.laysFinal "SaltedGate" "SaltedGate" "marks" "[LSaltedGate$Load;") ∈ lw_all := lw_g (lw_at lw_m2 121 rfl) rfl
theorem q481 : (Jvm.Cond.soleField "SaltedGate" "marks") ∈ lw_all := lw_g (lw_at lw_m2 122 rfl) rfl
theorem q482 : (Jvm.Cond.superclass "SaltedGate" "java/lang/Object") ∈ lw_all := lw_g (lw_at lw_m2 123 rfl) rfl
theorem q484 : (Jvm.Cond.instanceMethod ({ cls := "SaltedGate", name := "feed", desc := "(IIIII)I" } : Jvm.MethodName)) ∈ lw_all := lw_g (lw_at lw_m2 125 rfl) rfl
theorem q485 : (Jvm.Cond.selects "SaltedGate" ({ cls := "SaltedGate", name := "feed", desc := "(IIIII)I" } : Jvm.MethodName) ({ cls := "SaltedGate", name := "feed", desc := "(IIIII)I" } : Jvm.MethodName)) ∈ lw_all := lw_g (lw_at lw_m2 126 rfl) rfl
theorem q486 : (Jvm.Cond.code ({ cls := "SaltedGate", name := "feed", desc := "(IIIII)I" } : Jvm.MethodName) prog_1_method_10_code (6 : Nat) (Option.some Jvm.ClassFile.FieldType.int)) ∈ lw_all := lw_g (lw_at lw_m2 127 rfl) rfl
theorem q487 : (Jvm.Cond.methodLink "SaltedGate" (99 : Nat) ({ cls := "SaltedGate", name := "bytes", desc := "(I)V" } : Jvm.MethodName)) ∈ lw_all := lw_g (lw_at lw_m2 128 rfl) rfl
theorem q488 : (Jvm.Cond.privateMethod ({ cls := "SaltedGate", name := "bytes", desc := "(I)V" } : Jvm.MethodName)) ∈ lw_tbl := lw_at lw_m2 129 rfl
theorem q489 : (Jvm.Cond.instanceMethod ({ cls := "SaltedGate", name := "bytes", desc := "(I)V" } : Jvm.MethodName)) ∈ lw_all := lw_g (lw_at lw_m2 130 rfl) rfl
theorem q490 : (Jvm.Cond.code ({ cls := "SaltedGate", name := "bytes", desc := "(I)V" } : Jvm.MethodName) prog_1_method_11_code (3 : Nat) (Option.none : Option Jvm.ClassFile.FieldType)) ∈ lw_all := lw_g (lw_at lw_m2 131 rfl) rfl
theorem q492 : (Jvm.Cond.instanceMethod ({ cls := "SaltedGate", name := "barrier", desc := "(I)I" } : Jvm.MethodName)) ∈ lw_all := lw_g (lw_at lw_m2 133 rfl) rfl
theorem q493 : (Jvm.Cond.selects "SaltedGate" ({ cls := "SaltedGate", name := "barrier", desc := "(I)I" } : Jvm.MethodName) ({ cls := "SaltedGate", name := "barrier", desc := "(I)I" } : Jvm.MethodName)) ∈ lw_all := lw_g (lw_at lw_m2 134 rfl) rfl
theorem q494 : (Jvm.Cond.codeWith ({ cls := "SaltedGate", name := "barrier", desc := "(I)I" } : Jvm.MethodName) prog_1_method_12_code (3 : Nat) (Option.some Jvm.ClassFile.FieldType.int) [((32 : Nat), (44 : Nat), (47 : Nat), (122 : Nat))]) ∈ lw_all := lw_g (lw_at lw_m2 135 rfl) rfl
theorem q495 : (Jvm.Cond.classLink "SaltedGate" (122 : Nat) "SaltedGate$Refused") ∈ lw_all := lw_g (lw_at lw_m2 136 rfl) rfl
theorem q496 : (Jvm.Cond.methodLink "SaltedGate" (93 : Nat) ({ cls := "SaltedGate", name := "anew", desc := "()V" } : Jvm.MethodName)) ∈ lw_all := lw_g (lw_at lw_m2 137 rfl) rfl
theorem q497 : (Jvm.Cond.privateMethod ({ cls := "SaltedGate", name := "anew", desc := "()V" } : Jvm.MethodName)) ∈ lw_tbl := lw_at lw_m2 138 rfl
theorem q498 : (Jvm.Cond.instanceMethod ({ cls := "SaltedGate", name := "anew", desc := "()V" } : Jvm.MethodName)) ∈ lw_all := lw_g (lw_at lw_m2 139 rfl) rfl
theorem q499 : (Jvm.Cond.code ({ cls := "SaltedGate", name := "anew", desc := "()V" } : Jvm.MethodName) prog_1_method_6_code (1 : Nat) (Option.none : Option Jvm.ClassFile.FieldType)) ∈ lw_all := lw_g (lw_at lw_m2 140 rfl) rfl
theorem q500 : (Jvm.Cond.methodLink "SaltedGate" (103 : Nat) ({ cls := "SaltedGate", name := "in", desc := "(III)Z" } : Jvm.MethodName)) ∈ lw_all := lw_g (lw_at lw_m2 141 rfl) rfl
theorem q501 : (Jvm.Cond.static ({ cls := "SaltedGate", name := "in", desc := "(III)Z" } : Jvm.MethodName)) ∈ lw_all := lw_g (lw_at lw_m2 142 rfl) rfl
theorem q502 : (Jvm.Cond.code ({ cls := "SaltedGate", name := "in", desc := "(III)Z" } : Jvm.MethodName) prog_1_method_1_code (3 : Nat) (Option.some Jvm.ClassFile.FieldType.boolean)) ∈ lw_all := lw_g (lw_at lw_m2 143 rfl) rfl
theorem q503 : (Jvm.Cond.methodLink "SaltedGate" (107 : Nat) ({ cls := "SaltedGate", name := "no", desc := "(I)I" } : Jvm.MethodName)) ∈ lw_all := lw_g (lw_at lw_m2 144 rfl) rfl
theorem q504 : (Jvm.Cond.privateMethod ({ cls := "SaltedGate", name := "no", desc := "(I)I" } : Jvm.MethodName)) ∈ lw_tbl := lw_at lw_m2 145 rfl
theorem q505 : (Jvm.Cond.instanceMethod ({ cls := "SaltedGate", name := "no", desc := "(I)I" } : Jvm.MethodName)) ∈ lw_all := lw_g (lw_at lw_m2 146 rfl) rfl
theorem q506 : (Jvm.Cond.code ({ cls := "SaltedGate", name := "no", desc := "(I)I" } : Jvm.MethodName) prog_1_method_7_code (2 : Nat) (Option.some Jvm.ClassFile.FieldType.int)) ∈ lw_all := lw_g (lw_at lw_m2 147 rfl) rfl
theorem q507 : (Jvm.Cond.methodLink "SaltedGate" (114 : Nat) ({ cls := "SaltedGate$Reader", name := "read", desc := "(I)LSaltedGate$Barrier;" } : Jvm.MethodName)) ∈ lw_all := lw_g (lw_at lw_m2 148 rfl) rfl
theorem q529 : (Jvm.Cond.fieldLink "SaltedGate" (275 : Nat) "SaltedGate$Barrier" "means" "[LSaltedGate$Means;") ∈ lw_all := lw_g (lw_at lw_m2 170 rfl) rfl
theorem q532 : (Jvm.Cond.fieldLink "SaltedGate" (196 : Nat) "SaltedGate$Barrier" "people" "[LSaltedGate$Traveller;") ∈ lw_all := lw_g (lw_at lw_m2 173 rfl) rfl
theorem q537 : (Jvm.Cond.fieldLink "SaltedGate" (216 : Nat) "SaltedGate$Barrier" "gates" "[LSaltedGate$Gate;") ∈ lw_all := lw_g (lw_at lw_m2 178 rfl) rfl
theorem q542 : (Jvm.Cond.fieldLink "SaltedGate" (157 : Nat) "SaltedGate$Barrier" "goods" "[LSaltedGate$Good;") ∈ lw_all := lw_g (lw_at lw_m2 183 rfl) rfl
theorem q554 : (Jvm.Cond.fieldLink "SaltedGate" (302 : Nat) "SaltedGate$Barrier" "fee" "I") ∈ lw_all := lw_g (lw_at lw_m2 195 rfl) rfl
theorem q556 : (Jvm.Cond.fieldLink "SaltedGate" (351 : Nat) "SaltedGate$Barrier" "interest" "I") ∈ lw_all := lw_g (lw_at lw_m2 197 rfl) rfl
theorem q559 : (Jvm.Cond.fieldLink "SaltedGate" (272 : Nat) "SaltedGate$Barrier" "meansMany" "I") ∈ lw_all := lw_g (lw_at lw_m2 200 rfl) rfl
theorem q562 : (Jvm.Cond.fieldLink "SaltedGate" (147 : Nat) "SaltedGate$Barrier" "personMany" "I") ∈ lw_all := lw_g (lw_at lw_m2 203 rfl) rfl
theorem q565 : (Jvm.Cond.fieldLink "SaltedGate" (150 : Nat) "SaltedGate$Barrier" "gateMany" "I") ∈ lw_all := lw_g (lw_at lw_m2 206 rfl) rfl
theorem q572 : (Jvm.Cond.fieldLink "SaltedGate" (142 : Nat) "SaltedGate$Barrier" "goodMany" "I") ∈ lw_all := lw_g (lw_at lw_m2 213 rfl) rfl
theorem q576 : (Jvm.Cond.fieldLink "SaltedGate" (326 : Nat) "SaltedGate$Barrier" "crossMany" "I") ∈ lw_all := lw_g (lw_at lw_m2 217 rfl) rfl
theorem q578 : (Jvm.Cond.fieldLink "SaltedGate" (383 : Nat) "SaltedGate$Barrier" "priceMany" "I") ∈ lw_all := lw_g (lw_at lw_m2 219 rfl) rfl
theorem q581 : (Jvm.Cond.fieldLink "SaltedGate" (334 : Nat) "SaltedGate$Barrier" "crumbMany" "I") ∈ lw_all := lw_g (lw_at lw_m2 222 rfl) rfl
theorem q868 : (Jvm.Cond.fieldLink "SaltedGate" (171 : Nat) "SaltedGate$Means" "number" "I") ∈ lw_all := lw_g (lw_at lw_m4 29 rfl) rfl
theorem q901 : (Jvm.Cond.fieldLink "SaltedGate" (200 : Nat) "SaltedGate$Traveller" "allow" "I") ∈ lw_all := lw_g (lw_at lw_m4 62 rfl) rfl
theorem q925 : (Jvm.Cond.fieldLink "SaltedGate" (220 : Nat) "SaltedGate$Gate" "nose" "I") ∈ lw_all := lw_g (lw_at lw_m4 86 rfl) rfl
theorem q928 : (Jvm.Cond.fieldLink "SaltedGate" (225 : Nat) "SaltedGate$Gate" "opens" "I") ∈ lw_all := lw_g (lw_at lw_m4 89 rfl) rfl
theorem q931 : (Jvm.Cond.fieldLink "SaltedGate" (228 : Nat) "SaltedGate$Gate" "shuts" "I") ∈ lw_all := lw_g (lw_at lw_m4 92 rfl) rfl
theorem q964 : (Jvm.Cond.fieldLink "SaltedGate" (176 : Nat) "SaltedGate$Good" "whose" "I") ∈ lw_all := lw_g (lw_at lw_m4 125 rfl) rfl
theorem q974 : (Jvm.Cond.fieldLink "SaltedGate" (179 : Nat) "SaltedGate$Good" "weighs" "I") ∈ lw_all := lw_g (lw_at lw_m4 135 rfl) rfl
theorem q1141 : (Jvm.Cond.methodLink "SaltedGate" (128 : Nat) ({ cls := "SaltedGate$Load", name := "begin", desc := "(LSaltedGate$Barrier;)V" } : Jvm.MethodName)) ∈ lw_all := lw_g (lw_at lw_m5 62 rfl) rfl
theorem q1145 : (Jvm.Cond.methodLink "SaltedGate" (132 : Nat) ({ cls := "SaltedGate$Course", name := "run", desc := "(LSaltedGate$Barrier;LSaltedGate$Law;ZI)I" } : Jvm.MethodName)) ∈ lw_all := lw_g (lw_at lw_m5 66 rfl) rfl
theorem q1164 : (Jvm.Cond.static ({ cls := "SaltedGate", name := "has", desc := "(II)Z" } : Jvm.MethodName)) ∈ lw_all := lw_g (lw_at lw_m5 85 rfl) rfl
theorem q1165 : (Jvm.Cond.code ({ cls := "SaltedGate", name := "has", desc := "(II)Z" } : Jvm.MethodName) prog_1_method_2_code (2 : Nat) (Option.some Jvm.ClassFile.FieldType.boolean)) ∈ lw_all := lw_g (lw_at lw_m5 86 rfl) rfl
theorem q1272 : (Jvm.Cond.instanceMethod ({ cls := "SaltedGate", name := "fault", desc := "()I" } : Jvm.MethodName)) ∈ lw_all := lw_g (lw_at lw_m5 193 rfl) rfl
theorem q1273 : (Jvm.Cond.selects "SaltedGate" ({ cls := "SaltedGate", name := "fault", desc := "()I" } : Jvm.MethodName) ({ cls := "SaltedGate", name := "fault", desc := "()I" } : Jvm.MethodName)) ∈ lw_all := lw_g (lw_at lw_m5 194 rfl) rfl
theorem q1274 : (Jvm.Cond.code ({ cls := "SaltedGate", name := "fault", desc := "()I" } : Jvm.MethodName) prog_1_method_13_code (1 : Nat) (Option.some Jvm.ClassFile.FieldType.int)) ∈ lw_all := lw_g (lw_at lw_m5 195 rfl) rfl
theorem q1276 : (Jvm.Cond.instanceMethod ({ cls := "SaltedGate", name := "where", desc := "()I" } : Jvm.MethodName)) ∈ lw_all := lw_g (lw_at lw_m5 197 rfl) rfl
theorem q1277 : (Jvm.Cond.selects "SaltedGate" ({ cls := "SaltedGate", name := "where", desc := "()I" } : Jvm.MethodName) ({ cls := "SaltedGate", name := "where", desc := "()I" } : Jvm.MethodName)) ∈ lw_all := lw_g (lw_at lw_m5 198 rfl) rfl
theorem q1278 : (Jvm.Cond.code ({ cls := "SaltedGate", name := "where", desc := "()I" } : Jvm.MethodName) prog_1_method_14_code (1 : Nat) (Option.some Jvm.ClassFile.FieldType.int)) ∈ lw_all := lw_g (lw_at lw_m5 199 rfl) rfl
theorem q1280 : (Jvm.Cond.instanceMethod ({ cls := "SaltedGate", name := "good", desc := "(II)I" } : Jvm.MethodName)) ∈ lw_all := lw_g (lw_at lw_m5 201 rfl) rfl
theorem q1281 : (Jvm.Cond.selects "SaltedGate" ({ cls := "SaltedGate", name := "good", desc := "(II)I" } : Jvm.MethodName) ({ cls := "SaltedGate", name := "good", desc := "(II)I" } : Jvm.MethodName)) ∈ lw_all := lw_g (lw_at lw_m5 202 rfl) rfl
theorem q1282 : (Jvm.Cond.code ({ cls := "SaltedGate", name := "good", desc := "(II)I" } : Jvm.MethodName) prog_1_method_18_code (4 : Nat) (Option.some Jvm.ClassFile.FieldType.int)) ∈ lw_all := lw_g (lw_at lw_m5 203 rfl) rfl
theorem q1283 : (Jvm.Cond.methodLink "SaltedGate" (153 : Nat) ({ cls := "SaltedGate", name := "isGood", desc := "(I)Z" } : Jvm.MethodName)) ∈ lw_all := lw_g (lw_at lw_m5 204 rfl) rfl
theorem q1284 : (Jvm.Cond.privateMethod ({ cls := "SaltedGate", name := "isGood", desc := "(I)Z" } : Jvm.MethodName)) ∈ lw_tbl := lw_at lw_m5 205 rfl
theorem q1285 : (Jvm.Cond.instanceMethod ({ cls := "SaltedGate", name := "isGood", desc := "(I)Z" } : Jvm.MethodName)) ∈ lw_all := lw_g (lw_at lw_m5 206 rfl) rfl
theorem q1286 : (Jvm.Cond.code ({ cls := "SaltedGate", name := "isGood", desc := "(I)Z" } : Jvm.MethodName) prog_1_method_15_code (2 : Nat) (Option.some Jvm.ClassFile.FieldType.boolean)) ∈ lw_all := lw_g (lw_at lw_m5 207 rfl) rfl
theorem q1287 : (Jvm.Cond.methodLink "SaltedGate" (161 : Nat) ({ cls := "SaltedGate$Good", name := "kind", desc := "()I" } : Jvm.MethodName)) ∈ lw_all := lw_g (lw_at lw_m5 208 rfl) rfl
theorem q1305 : (Jvm.Cond.methodLink "SaltedGate" (167 : Nat) ({ cls := "SaltedGate$Good", name := "means", desc := "()LSaltedGate$Means;" } : Jvm.MethodName)) ∈ lw_all := lw_g (lw_at lw_m5 226 rfl) rfl
theorem q1316 : (Jvm.Cond.methodLink "SaltedGate" (189 : Nat) ({ cls := "SaltedGate", name := "has", desc := "(II)Z" } : Jvm.MethodName)) ∈ lw_all := lw_g (lw_at lw_m5 237 rfl) rfl
theorem q1318 : (Jvm.Cond.instanceMethod ({ cls := "SaltedGate", name := "traveller", desc := "(II)I" } : Jvm.MethodName)) ∈ lw_all := lw_g (lw_at lw_m5 239 rfl) rfl
theorem q1319 : (Jvm.Cond.selects "SaltedGate" ({ cls := "SaltedGate", name := "traveller", desc := "(II)I" } : Jvm.MethodName) ({ cls := "SaltedGate", name := "traveller", desc := "(II)I" } : Jvm.MethodName)) ∈ lw_all := lw_g (lw_at lw_m6 0 rfl) rfl
theorem q1320 : (Jvm.Cond.code ({ cls := "SaltedGate", name := "traveller", desc := "(II)I" } : Jvm.MethodName) prog_1_method_19_code (3 : Nat) (Option.some Jvm.ClassFile.FieldType.int)) ∈ lw_all := lw_g (lw_at lw_m6 1 rfl) rfl
theorem q1321 : (Jvm.Cond.methodLink "SaltedGate" (193 : Nat) ({ cls := "SaltedGate", name := "isPerson", desc := "(I)Z" } : Jvm.MethodName)) ∈ lw_all := lw_g (lw_at lw_m6 2 rfl) rfl
theorem q1322 : (Jvm.Cond.privateMethod ({ cls := "SaltedGate", name := "isPerson", desc := "(I)Z" } : Jvm.MethodName)) ∈ lw_tbl := lw_at lw_m6 3 rfl
theorem q1323 : (Jvm.Cond.instanceMethod ({ cls := "SaltedGate", name := "isPerson", desc := "(I)Z" } : Jvm.MethodName)) ∈ lw_all := lw_g (lw_at lw_m6 4 rfl) rfl
theorem q1324 : (Jvm.Cond.code ({ cls := "SaltedGate", name := "isPerson", desc := "(I)Z" } : Jvm.MethodName) prog_1_method_16_code (2 : Nat) (Option.some Jvm.ClassFile.FieldType.boolean)) ∈ lw_all := lw_g (lw_at lw_m6 5 rfl) rfl
theorem q1325 : (Jvm.Cond.methodLink "SaltedGate" (205 : Nat) ({ cls := "SaltedGate$Load", name := "hunger", desc := "(I)I" } : Jvm.MethodName)) ∈ lw_all := lw_g (lw_at lw_m6 6 rfl) rfl
theorem q1329 : (Jvm.Cond.methodLink "SaltedGate" (211 : Nat) ({ cls := "SaltedGate$Load", name := "has", desc := "(I)I" } : Jvm.MethodName)) ∈ lw_all := lw_g (lw_at lw_m6 10 rfl) rfl
theorem q1331 : (Jvm.Cond.instanceMethod ({ cls := "SaltedGate", name := "gate", desc := "(II)I" } : Jvm.MethodName)) ∈ lw_all := lw_g (lw_at lw_m6 12 rfl) rfl
theorem q1332 : (Jvm.Cond.selects "SaltedGate" ({ cls := "SaltedGate", name := "gate", desc := "(II)I" } : Jvm.MethodName) ({ cls := "SaltedGate", name := "gate", desc := "(II)I" } : Jvm.MethodName)) ∈ lw_all := lw_g (lw_at lw_m6 13 rfl) rfl
theorem q1333 : (Jvm.Cond.code ({ cls := "SaltedGate", name := "gate", desc := "(II)I" } : Jvm.MethodName) prog_1_method_20_code (4 : Nat) (Option.some Jvm.ClassFile.FieldType.int)) ∈ lw_all := lw_g (lw_at lw_m6 14 rfl) rfl
theorem q1334 : (Jvm.Cond.methodLink "SaltedGate" (213 : Nat) ({ cls := "SaltedGate", name := "isGate", desc := "(I)Z" } : Jvm.MethodName)) ∈ lw_all := lw_g (lw_at lw_m6 15 rfl) rfl
theorem q1335 : (Jvm.Cond.privateMethod ({ cls := "SaltedGate", name := "isGate", desc := "(I)Z" } : Jvm.MethodName)) ∈ lw_tbl := lw_at lw_m6 16 rfl
theorem q1336 : (Jvm.Cond.instanceMethod ({ cls := "SaltedGate", name := "isGate", desc := "(I)Z" } : Jvm.MethodName)) ∈ lw_all := lw_g (lw_at lw_m6 17 rfl) rfl
theorem q1337 : (Jvm.Cond.code ({ cls := "SaltedGate", name := "isGate", desc := "(I)Z" } : Jvm.MethodName) prog_1_method_17_code (2 : Nat) (Option.some Jvm.ClassFile.FieldType.boolean)) ∈ lw_all := lw_g (lw_at lw_m6 18 rfl) rfl
theorem q1339 : (Jvm.Cond.instanceMethod ({ cls := "SaltedGate", name := "age", desc := "(II)I" } : Jvm.MethodName)) ∈ lw_all := lw_g (lw_at lw_m6 20 rfl) rfl
theorem q1340 : (Jvm.Cond.selects "SaltedGate" ({ cls := "SaltedGate", name := "age", desc := "(II)I" } : Jvm.MethodName) ({ cls := "SaltedGate", name := "age", desc := "(II)I" } : Jvm.MethodName)) ∈ lw_all := lw_g (lw_at lw_m6 21 rfl) rfl
theorem q1341 : (Jvm.Cond.code ({ cls := "SaltedGate", name := "age", desc := "(II)I" } : Jvm.MethodName) prog_1_method_23_code (4 : Nat) (Option.some Jvm.ClassFile.FieldType.int)) ∈ lw_all := lw_g (lw_at lw_m6 22 rfl) rfl
theorem q1342 : (Jvm.Cond.methodLink "SaltedGate" (234 : Nat) ({ cls := "SaltedGate", name := "why", desc := "(ZI)I" } : Jvm.MethodName)) ∈ lw_all := lw_g (lw_at lw_m6 23 rfl) rfl
theorem q1343 : (Jvm.Cond.privateMethod ({ cls := "SaltedGate", name := "why", desc := "(ZI)I" } : Jvm.MethodName)) ∈ lw_tbl := lw_at lw_m6 24 rfl
theorem q1344 : (Jvm.Cond.instanceMethod ({ cls := "SaltedGate", name := "why", desc := "(ZI)I" } : Jvm.MethodName)) ∈ lw_all := lw_g (lw_at lw_m6 25 rfl) rfl
theorem q1345 : (Jvm.Cond.code ({ cls := "SaltedGate", name := "why", desc := "(ZI)I" } : Jvm.MethodName) prog_1_method_21_code (3 : Nat) (Option.some Jvm.ClassFile.FieldType.int)) ∈ lw_all := lw_g (lw_at lw_m6 26 rfl) rfl
theorem q1346 : (Jvm.Cond.methodLink "SaltedGate" (238 : Nat) ({ cls := "SaltedGate", name := "on", desc := "(I)I" } : Jvm.MethodName)) ∈ lw_all := lw_g (lw_at lw_m6 27 rfl) rfl
theorem q1347 : (Jvm.Cond.privateMethod ({ cls := "SaltedGate", name := "on", desc := "(I)I" } : Jvm.MethodName)) ∈ lw_tbl := lw_at lw_m6 28 rfl
theorem q1348 : (Jvm.Cond.instanceMethod ({ cls := "SaltedGate", name := "on", desc := "(I)I" } : Jvm.MethodName)) ∈ lw_all := lw_g (lw_at lw_m6 29 rfl) rfl
theorem q1349 : (Jvm.Cond.code ({ cls := "SaltedGate", name := "on", desc := "(I)I" } : Jvm.MethodName) prog_1_method_22_code (2 : Nat) (Option.some Jvm.ClassFile.FieldType.int)) ∈ lw_all := lw_g (lw_at lw_m6 30 rfl) rfl
theorem q1350 : (Jvm.Cond.methodLink "SaltedGate" (241 : Nat) ({ cls := "SaltedGate$Good", name := "age", desc := "(I)I" } : Jvm.MethodName)) ∈ lw_all := lw_g (lw_at lw_m6 31 rfl) rfl
theorem q1352 : (Jvm.Cond.instanceMethod ({ cls := "SaltedGate", name := "worth", desc := "(II)I" } : Jvm.MethodName)) ∈ lw_all := lw_g (lw_at lw_m6 33 rfl) rfl
theorem q1353 : (Jvm.Cond.selects "SaltedGate" ({ cls := "SaltedGate", name := "worth", desc := "(II)I" } : Jvm.MethodName) ({ cls := "SaltedGate", name := "worth", desc := "(II)I" } : Jvm.MethodName)) ∈ lw_all := lw_g (lw_at lw_m6 34 rfl) rfl
theorem q1354 : (Jvm.Cond.code ({ cls := "SaltedGate", name := "worth", desc := "(II)I" } : Jvm.MethodName) prog_1_method_24_code (4 : Nat) (Option.some Jvm.ClassFile.FieldType.int)) ∈ lw_all := lw_g (lw_at lw_m6 35 rfl) rfl
theorem q1355 : (Jvm.Cond.methodLink "SaltedGate" (244 : Nat) ({ cls := "SaltedGate$Good", name := "worthOn", desc := "(I)I" } : Jvm.MethodName)) ∈ lw_all := lw_g (lw_at lw_m6 36 rfl) rfl
theorem q1378 : (Jvm.Cond.instanceMethod ({ cls := "SaltedGate", name := "duty", desc := "(II)I" } : Jvm.MethodName)) ∈ lw_all := lw_g (lw_at lw_m6 59 rfl) rfl
theorem q1379 : (Jvm.Cond.selects "SaltedGate" ({ cls := "SaltedGate", name := "duty", desc := "(II)I" } : Jvm.MethodName) ({ cls := "SaltedGate", name := "duty", desc := "(II)I" } : Jvm.MethodName)) ∈ lw_all := lw_g (lw_at lw_m6 60 rfl) rfl
theorem q1380 : (Jvm.Cond.code ({ cls := "SaltedGate", name := "duty", desc := "(II)I" } : Jvm.MethodName) prog_1_method_25_code (4 : Nat) (Option.some Jvm.ClassFile.FieldType.int)) ∈ lw_all := lw_g (lw_at lw_m6 61 rfl) rfl
theorem q1381 : (Jvm.Cond.methodLink "SaltedGate" (247 : Nat) ({ cls := "SaltedGate$Good", name := "duty", desc := "(ILSaltedGate$Law;)I" } : Jvm.MethodName)) ∈ lw_all := lw_g (lw_at lw_m6 62 rfl) rfl
theorem q1383 : (Jvm.Cond.instanceMethod ({ cls := "SaltedGate", name := "smell", desc := "(II)I" } : Jvm.MethodName)) ∈ lw_all := lw_g (lw_at lw_m6 64 rfl) rfl
theorem q1384 : (Jvm.Cond.selects "SaltedGate" ({ cls := "SaltedGate", name := "smell", desc := "(II)I" } : Jvm.MethodName) ({ cls := "SaltedGate", name := "smell", desc := "(II)I" } : Jvm.MethodName)) ∈ lw_all := lw_g (lw_at lw_m6 65 rfl) rfl
theorem q1385 : (Jvm.Cond.code ({ cls := "SaltedGate", name := "smell", desc := "(II)I" } : Jvm.MethodName) prog_1_method_26_code (4 : Nat) (Option.some Jvm.ClassFile.FieldType.int)) ∈ lw_all := lw_g (lw_at lw_m6 66 rfl) rfl
theorem q1386 : (Jvm.Cond.methodLink "SaltedGate" (251 : Nat) ({ cls := "SaltedGate$Load", name := "smell", desc := "(II)I" } : Jvm.MethodName)) ∈ lw_all := lw_g (lw_at lw_m6 67 rfl) rfl
theorem q1388 : (Jvm.Cond.instanceMethod ({ cls := "SaltedGate", name := "turned", desc := "(I)I" } : Jvm.MethodName)) ∈ lw_all := lw_g (lw_at lw_m6 69 rfl) rfl
theorem q1389 : (Jvm.Cond.selects "SaltedGate" ({ cls := "SaltedGate", name := "turned", desc := "(I)I" } : Jvm.MethodName) ({ cls := "SaltedGate", name := "turned", desc := "(I)I" } : Jvm.MethodName)) ∈ lw_all := lw_g (lw_at lw_m6 70 rfl) rfl
theorem q1390 : (Jvm.Cond.code ({ cls := "SaltedGate", name := "turned", desc := "(I)I" } : Jvm.MethodName) prog_1_method_27_code (3 : Nat) (Option.some Jvm.ClassFile.FieldType.int)) ∈ lw_all := lw_g (lw_at lw_m6 71 rfl) rfl
theorem q1391 : (Jvm.Cond.methodLink "SaltedGate" (255 : Nat) ({ cls := "SaltedGate$Good", name := "isTurned", desc := "(I)Z" } : Jvm.MethodName)) ∈ lw_all := lw_g (lw_at lw_m6 72 rfl) rfl
theorem q1393 : (Jvm.Cond.instanceMethod ({ cls := "SaltedGate", name := "asked", desc := "(III)I" } : Jvm.MethodName)) ∈ lw_all := lw_g (lw_at lw_m6 74 rfl) rfl
theorem q1394 : (Jvm.Cond.selects "SaltedGate" ({ cls := "SaltedGate", name := "asked", desc := "(III)I" } : Jvm.MethodName) ({ cls := "SaltedGate", name := "asked", desc := "(III)I" } : Jvm.MethodName)) ∈ lw_all := lw_g (lw_at lw_m6 75 rfl) rfl
theorem q1395 : (Jvm.Cond.code ({ cls := "SaltedGate", name := "asked", desc := "(III)I" } : Jvm.MethodName) prog_1_method_30_code (5 : Nat) (Option.some Jvm.ClassFile.FieldType.int)) ∈ lw_all := lw_g (lw_at lw_m6 76 rfl) rfl
theorem q1396 : (Jvm.Cond.methodLink "SaltedGate" (266 : Nat) ({ cls := "SaltedGate", name := "crossWhy", desc := "(III)I" } : Jvm.MethodName)) ∈ lw_all := lw_g (lw_at lw_m6 77 rfl) rfl
theorem q1397 : (Jvm.Cond.privateMethod ({ cls := "SaltedGate", name := "crossWhy", desc := "(III)I" } : Jvm.MethodName)) ∈ lw_tbl := lw_at lw_m6 78 rfl
theorem q1398 : (Jvm.Cond.instanceMethod ({ cls := "SaltedGate", name := "crossWhy", desc := "(III)I" } : Jvm.MethodName)) ∈ lw_all := lw_g (lw_at lw_m6 79 rfl) rfl
theorem q1399 : (Jvm.Cond.code ({ cls := "SaltedGate", name := "crossWhy", desc := "(III)I" } : Jvm.MethodName) prog_1_method_29_code (4 : Nat) (Option.some Jvm.ClassFile.FieldType.int)) ∈ lw_all := lw_g (lw_at lw_m6 80 rfl) rfl
theorem q1400 : (Jvm.Cond.methodLink "SaltedGate" (269 : Nat) ({ cls := "SaltedGate", name := "askedOf", desc := "(IIILSaltedGate$Law;)I" } : Jvm.MethodName)) ∈ lw_all := lw_g (lw_at lw_m6 81 rfl) rfl
theorem q1401 : (Jvm.Cond.privateMethod ({ cls := "SaltedGate", name := "askedOf", desc := "(IIILSaltedGate$Law;)I" } : Jvm.MethodName)) ∈ lw_tbl := lw_at lw_m6 82 rfl
theorem q1402 : (Jvm.Cond.instanceMethod ({ cls := "SaltedGate", name := "askedOf", desc := "(IIILSaltedGate$Law;)I" } : Jvm.MethodName)) ∈ lw_all := lw_g (lw_at lw_m6 83 rfl) rfl
theorem q1403 : (Jvm.Cond.code ({ cls := "SaltedGate", name := "askedOf", desc := "(IIILSaltedGate$Law;)I" } : Jvm.MethodName) prog_1_method_28_code (5 : Nat) (Option.some Jvm.ClassFile.FieldType.int)) ∈ lw_all := lw_g (lw_at lw_m6 84 rfl) rfl
theorem q1404 : (Jvm.Cond.methodLink "SaltedGate" (258 : Nat) ({ cls := "SaltedGate$Load", name := "found", desc := "(III)I" } : Jvm.MethodName)) ∈ lw_all := lw_g (lw_at lw_m6 85 rfl) rfl
theorem q1405 : (Jvm.Cond.methodLink "SaltedGate" (262 : Nat) ({ cls := "SaltedGate$Load", name := "asked", desc := "(IIILSaltedGate$Law;)I" } : Jvm.MethodName)) ∈ lw_all := lw_g (lw_at lw_m6 86 rfl) rfl
theorem q1407 : (Jvm.Cond.instanceMethod ({ cls := "SaltedGate", name := "found", desc := "(III)I" } : Jvm.MethodName)) ∈ lw_all := lw_g (lw_at lw_m6 88 rfl) rfl
theorem q1408 : (Jvm.Cond.selects "SaltedGate" ({ cls := "SaltedGate", name := "found", desc := "(III)I" } : Jvm.MethodName) ({ cls := "SaltedGate", name := "found", desc := "(III)I" } : Jvm.MethodName)) ∈ lw_all := lw_g (lw_at lw_m6 89 rfl) rfl
theorem q1409 : (Jvm.Cond.code ({ cls := "SaltedGate", name := "found", desc := "(III)I" } : Jvm.MethodName) prog_1_method_31_code (5 : Nat) (Option.some Jvm.ClassFile.FieldType.int)) ∈ lw_all := lw_g (lw_at lw_m6 90 rfl) rfl
theorem q1411 : (Jvm.Cond.instanceMethod ({ cls := "SaltedGate", name := "otherLaw", desc := "(III)I" } : Jvm.MethodName)) ∈ lw_all := lw_g (lw_at lw_m6 92 rfl) rfl
theorem q1412 : (Jvm.Cond.selects "SaltedGate" ({ cls := "SaltedGate", name := "otherLaw", desc := "(III)I" } : Jvm.MethodName) ({ cls := "SaltedGate", name := "otherLaw", desc := "(III)I" } : Jvm.MethodName)) ∈ lw_all := lw_g (lw_at lw_m6 93 rfl) rfl
theorem q1413 : (Jvm.Cond.code ({ cls := "SaltedGate", name := "otherLaw", desc := "(III)I" } : Jvm.MethodName) prog_1_method_32_code (5 : Nat) (Option.some Jvm.ClassFile.FieldType.int)) ∈ lw_all := lw_g (lw_at lw_m6 94 rfl) rfl
theorem q1415 : (Jvm.Cond.instanceMethod ({ cls := "SaltedGate", name := "carries", desc := "(II)I" } : Jvm.MethodName)) ∈ lw_all := lw_g (lw_at lw_m6 96 rfl) rfl
theorem q1416 : (Jvm.Cond.selects "SaltedGate" ({ cls := "SaltedGate", name := "carries", desc := "(II)I" } : Jvm.MethodName) ({ cls := "SaltedGate", name := "carries", desc := "(II)I" } : Jvm.MethodName)) ∈ lw_all := lw_g (lw_at lw_m6 97 rfl) rfl
theorem q1417 : (Jvm.Cond.code ({ cls := "SaltedGate", name := "carries", desc := "(II)I" } : Jvm.MethodName) prog_1_method_33_code (7 : Nat) (Option.some Jvm.ClassFile.FieldType.int)) ∈ lw_all := lw_g (lw_at lw_m6 98 rfl) rfl
theorem q1419 : (Jvm.Cond.instanceMethod ({ cls := "SaltedGate", name := "dutyBy", desc := "(II)I" } : Jvm.MethodName)) ∈ lw_all := lw_g (lw_at lw_m6 100 rfl) rfl
theorem q1420 : (Jvm.Cond.selects "SaltedGate" ({ cls := "SaltedGate", name := "dutyBy", desc := "(II)I" } : Jvm.MethodName) ({ cls := "SaltedGate", name := "dutyBy", desc := "(II)I" } : Jvm.MethodName)) ∈ lw_all := lw_g (lw_at lw_m6 101 rfl) rfl
theorem q1421 : (Jvm.Cond.code ({ cls := "SaltedGate", name := "dutyBy", desc := "(II)I" } : Jvm.MethodName) prog_1_method_34_code (6 : Nat) (Option.some Jvm.ClassFile.FieldType.int)) ∈ lw_all := lw_g (lw_at lw_m6 102 rfl) rfl
theorem q1423 : (Jvm.Cond.instanceMethod ({ cls := "SaltedGate", name := "nearest", desc := "(III)I" } : Jvm.MethodName)) ∈ lw_all := lw_g (lw_at lw_m6 104 rfl) rfl
theorem q1424 : (Jvm.Cond.selects "SaltedGate" ({ cls := "SaltedGate", name := "nearest", desc := "(III)I" } : Jvm.MethodName) ({ cls := "SaltedGate", name := "nearest", desc := "(III)I" } : Jvm.MethodName)) ∈ lw_all := lw_g (lw_at lw_m6 105 rfl) rfl
theorem q1425 : (Jvm.Cond.code ({ cls := "SaltedGate", name := "nearest", desc := "(III)I" } : Jvm.MethodName) prog_1_method_35_code (8 : Nat) (Option.some Jvm.ClassFile.FieldType.int)) ∈ lw_all := lw_g (lw_at lw_m6 106 rfl) rfl
theorem q1427 : (Jvm.Cond.instanceMethod ({ cls := "SaltedGate", name := "bestGate", desc := "(II)I" } : Jvm.MethodName)) ∈ lw_all := lw_g (lw_at lw_m6 108 rfl) rfl
theorem q1428 : (Jvm.Cond.selects "SaltedGate" ({ cls := "SaltedGate", name := "bestGate", desc := "(II)I" } : Jvm.MethodName) ({ cls := "SaltedGate", name := "bestGate", desc := "(II)I" } : Jvm.MethodName)) ∈ lw_all := lw_g (lw_at lw_m6 109 rfl) rfl
theorem q1429 : (Jvm.Cond.code ({ cls := "SaltedGate", name := "bestGate", desc := "(II)I" } : Jvm.MethodName) prog_1_method_36_code (6 : Nat) (Option.some Jvm.ClassFile.FieldType.int)) ∈ lw_all := lw_g (lw_at lw_m6 110 rfl) rfl
theorem q1431 : (Jvm.Cond.instanceMethod ({ cls := "SaltedGate", name := "cheapestDay", desc := "(II)I" } : Jvm.MethodName)) ∈ lw_all := lw_g (lw_at lw_m6 112 rfl) rfl
theorem q1432 : (Jvm.Cond.selects "SaltedGate" ({ cls := "SaltedGate", name := "cheapestDay", desc := "(II)I" } : Jvm.MethodName) ({ cls := "SaltedGate", name := "cheapestDay", desc := "(II)I" } : Jvm.MethodName)) ∈ lw_all := lw_g (lw_at lw_m6 113 rfl) rfl
theorem q1433 : (Jvm.Cond.code ({ cls := "SaltedGate", name := "cheapestDay", desc := "(II)I" } : Jvm.MethodName) prog_1_method_38_code (3 : Nat) (Option.some Jvm.ClassFile.FieldType.int)) ∈ lw_all := lw_g (lw_at lw_m6 114 rfl) rfl
theorem q1434 : (Jvm.Cond.methodLink "SaltedGate" (278 : Nat) ({ cls := "SaltedGate", name := "cheapestOf", desc := "(II)I" } : Jvm.MethodName)) ∈ lw_all := lw_g (lw_at lw_m6 115 rfl) rfl
theorem q1435 : (Jvm.Cond.privateMethod ({ cls := "SaltedGate", name := "cheapestOf", desc := "(II)I" } : Jvm.MethodName)) ∈ lw_tbl := lw_at lw_m6 116 rfl
theorem q1436 : (Jvm.Cond.instanceMethod ({ cls := "SaltedGate", name := "cheapestOf", desc := "(II)I" } : Jvm.MethodName)) ∈ lw_all := lw_g (lw_at lw_m6 117 rfl) rfl
theorem q1437 : (Jvm.Cond.code ({ cls := "SaltedGate", name := "cheapestOf", desc := "(II)I" } : Jvm.MethodName) prog_1_method_37_code (5 : Nat) (Option.some Jvm.ClassFile.FieldType.int)) ∈ lw_all := lw_g (lw_at lw_m6 118 rfl) rfl
theorem q1439 : (Jvm.Cond.instanceMethod ({ cls := "SaltedGate", name := "cheapest", desc := "(II)I" } : Jvm.MethodName)) ∈ lw_all := lw_g (lw_at lw_m6 120 rfl) rfl
theorem q1440 : (Jvm.Cond.selects "SaltedGate" ({ cls := "SaltedGate", name := "cheapest", desc := "(II)I" } : Jvm.MethodName) ({ cls := "SaltedGate", name := "cheapest", desc := "(II)I" } : Jvm.MethodName)) ∈ lw_all := lw_g (lw_at lw_m6 121 rfl) rfl
theorem q1441 : (Jvm.Cond.code ({ cls := "SaltedGate", name := "cheapest", desc := "(II)I" } : Jvm.MethodName) prog_1_method_39_code (3 : Nat) (Option.some Jvm.ClassFile.FieldType.int)) ∈ lw_all := lw_g (lw_at lw_m6 122 rfl) rfl
theorem q1443 : (Jvm.Cond.instanceMethod ({ cls := "SaltedGate", name := "eats", desc := "(III)I" } : Jvm.MethodName)) ∈ lw_all := lw_g (lw_at lw_m6 124 rfl) rfl
theorem q1444 : (Jvm.Cond.selects "SaltedGate" ({ cls := "SaltedGate", name := "eats", desc := "(III)I" } : Jvm.MethodName) ({ cls := "SaltedGate", name := "eats", desc := "(III)I" } : Jvm.MethodName)) ∈ lw_all := lw_g (lw_at lw_m6 125 rfl) rfl
theorem q1445 : (Jvm.Cond.code ({ cls := "SaltedGate", name := "eats", desc := "(III)I" } : Jvm.MethodName) prog_1_method_41_code (5 : Nat) (Option.some Jvm.ClassFile.FieldType.int)) ∈ lw_all := lw_g (lw_at lw_m6 126 rfl) rfl
theorem q1446 : (Jvm.Cond.methodLink "SaltedGate" (287 : Nat) ({ cls := "SaltedGate", name := "choiceWhy", desc := "(LSaltedGate$Choice;III)I" } : Jvm.MethodName)) ∈ lw_all := lw_g (lw_at lw_m6 127 rfl) rfl
theorem q1447 : (Jvm.Cond.privateMethod ({ cls := "SaltedGate", name := "choiceWhy", desc := "(LSaltedGate$Choice;III)I" } : Jvm.MethodName)) ∈ lw_tbl := lw_at lw_m6 128 rfl
theorem q1448 : (Jvm.Cond.instanceMethod ({ cls := "SaltedGate", name := "choiceWhy", desc := "(LSaltedGate$Choice;III)I" } : Jvm.MethodName)) ∈ lw_all := lw_g (lw_at lw_m6 129 rfl) rfl
theorem q1449 : (Jvm.Cond.code ({ cls := "SaltedGate", name := "choiceWhy", desc := "(LSaltedGate$Choice;III)I" } : Jvm.MethodName) prog_1_method_40_code (6 : Nat) (Option.some Jvm.ClassFile.FieldType.int)) ∈ lw_all := lw_g (lw_at lw_m6 130 rfl) rfl
theorem q1450 : (Jvm.Cond.methodLink "SaltedGate" (281 : Nat) ({ cls := "SaltedGate$Choice", name := "seek", desc := "(LSaltedGate$Barrier;LSaltedGate$Load;LSaltedGate$Law;III)V" } : Jvm.MethodName)) ∈ lw_all := lw_g (lw_at lw_m6 131 rfl) rfl
theorem q1471 : (Jvm.Cond.static ({ cls := "SaltedGate", name := "ones", desc := "(I)I" } : Jvm.MethodName)) ∈ lw_all := lw_g (lw_at lw_m6 152 rfl) rfl
theorem q1472 : (Jvm.Cond.code ({ cls := "SaltedGate", name := "ones", desc := "(I)I" } : Jvm.MethodName) prog_1_method_3_code (3 : Nat) (Option.some Jvm.ClassFile.FieldType.int)) ∈ lw_all := lw_g (lw_at lw_m6 153 rfl) rfl
theorem q1489 : (Jvm.Cond.methodLink "SaltedGate" (291 : Nat) ({ cls := "SaltedGate$Choice", name := "best", desc := "()I" } : Jvm.MethodName)) ∈ lw_all := lw_g (lw_at lw_m6 170 rfl) rfl
theorem q1496 : (Jvm.Cond.instanceMethod ({ cls := "SaltedGate", name := "eatsAsked", desc := "(III)I" } : Jvm.MethodName)) ∈ lw_all := lw_g (lw_at lw_m6 177 rfl) rfl
theorem q1497 : (Jvm.Cond.selects "SaltedGate" ({ cls := "SaltedGate", name := "eatsAsked", desc := "(III)I" } : Jvm.MethodName) ({ cls := "SaltedGate", name := "eatsAsked", desc := "(III)I" } : Jvm.MethodName)) ∈ lw_all := lw_g (lw_at lw_m6 178 rfl) rfl
theorem q1498 : (Jvm.Cond.code ({ cls := "SaltedGate", name := "eatsAsked", desc := "(III)I" } : Jvm.MethodName) prog_1_method_42_code (5 : Nat) (Option.some Jvm.ClassFile.FieldType.int)) ∈ lw_all := lw_g (lw_at lw_m6 179 rfl) rfl
theorem q1499 : (Jvm.Cond.methodLink "SaltedGate" (294 : Nat) ({ cls := "SaltedGate$Choice", name := "least", desc := "()I" } : Jvm.MethodName)) ∈ lw_all := lw_g (lw_at lw_m6 180 rfl) rfl
theorem q1506 : (Jvm.Cond.instanceMethod ({ cls := "SaltedGate", name := "hideBest", desc := "(III)I" } : Jvm.MethodName)) ∈ lw_all := lw_g (lw_at lw_m6 187 rfl) rfl
theorem q1507 : (Jvm.Cond.selects "SaltedGate" ({ cls := "SaltedGate", name := "hideBest", desc := "(III)I" } : Jvm.MethodName) ({ cls := "SaltedGate", name := "hideBest", desc := "(III)I" } : Jvm.MethodName)) ∈ lw_all := lw_g (lw_at lw_m6 188 rfl) rfl
theorem q1508 : (Jvm.Cond.code ({ cls := "SaltedGate", name := "hideBest", desc := "(III)I" } : Jvm.MethodName) prog_1_method_43_code (5 : Nat) (Option.some Jvm.ClassFile.FieldType.int)) ∈ lw_all := lw_g (lw_at lw_m6 189 rfl) rfl
theorem q1510 : (Jvm.Cond.instanceMethod ({ cls := "SaltedGate", name := "hideAsked", desc := "(III)I" } : Jvm.MethodName)) ∈ lw_all := lw_g (lw_at lw_m6 191 rfl) rfl
theorem q1511 : (Jvm.Cond.selects "SaltedGate" ({ cls := "SaltedGate", name := "hideAsked", desc := "(III)I" } : Jvm.MethodName) ({ cls := "SaltedGate", name := "hideAsked", desc := "(III)I" } : Jvm.MethodName)) ∈ lw_all := lw_g (lw_at lw_m6 192 rfl) rfl
theorem q1512 : (Jvm.Cond.code ({ cls := "SaltedGate", name := "hideAsked", desc := "(III)I" } : Jvm.MethodName) prog_1_method_44_code (5 : Nat) (Option.some Jvm.ClassFile.FieldType.int)) ∈ lw_all := lw_g (lw_at lw_m6 193 rfl) rfl
theorem q1514 : (Jvm.Cond.instanceMethod ({ cls := "SaltedGate", name := "cover", desc := "(III)I" } : Jvm.MethodName)) ∈ lw_all := lw_g (lw_at lw_m6 195 rfl) rfl
theorem q1515 : (Jvm.Cond.selects "SaltedGate" ({ cls := "SaltedGate", name := "cover", desc := "(III)I" } : Jvm.MethodName) ({ cls := "SaltedGate", name := "cover", desc := "(III)I" } : Jvm.MethodName)) ∈ lw_all := lw_g (lw_at lw_m6 196 rfl) rfl
theorem q1516 : (Jvm.Cond.code ({ cls := "SaltedGate", name := "cover", desc := "(III)I" } : Jvm.MethodName) prog_1_method_45_code (8 : Nat) (Option.some Jvm.ClassFile.FieldType.int)) ∈ lw_all := lw_g (lw_at lw_m6 197 rfl) rfl
theorem q1517 : (Jvm.Cond.methodLink "SaltedGate" (297 : Nat) ({ cls := "java/lang/Math", name := "max", desc := "(II)I" } : Jvm.MethodName)) ∈ lw_all := lw_g (lw_at lw_m6 198 rfl) rfl
theorem q1519 : (Jvm.Cond.instanceMethod ({ cls := "SaltedGate", name := "hold", desc := "(I)I" } : Jvm.MethodName)) ∈ lw_all := lw_g (lw_at lw_m6 200 rfl) rfl
theorem q1520 : (Jvm.Cond.selects "SaltedGate" ({ cls := "SaltedGate", name := "hold", desc := "(I)I" } : Jvm.MethodName) ({ cls := "SaltedGate", name := "hold", desc := "(I)I" } : Jvm.MethodName)) ∈ lw_all := lw_g (lw_at lw_m6 201 rfl) rfl
theorem q1521 : (Jvm.Cond.code ({ cls := "SaltedGate", name := "hold", desc := "(I)I" } : Jvm.MethodName) prog_1_method_48_code (2 : Nat) (Option.some Jvm.ClassFile.FieldType.int)) ∈ lw_all := lw_g (lw_at lw_m6 202 rfl) rfl
theorem q1522 : (Jvm.Cond.methodLink "SaltedGate" (308 : Nat) ({ cls := "SaltedGate", name := "bestHold", desc := "(I)I" } : Jvm.MethodName)) ∈ lw_all := lw_g (lw_at lw_m6 203 rfl) rfl
theorem q1523 : (Jvm.Cond.privateMethod ({ cls := "SaltedGate", name := "bestHold", desc := "(I)I" } : Jvm.MethodName)) ∈ lw_tbl := lw_at lw_m6 204 rfl
theorem q1524 : (Jvm.Cond.instanceMethod ({ cls := "SaltedGate", name := "bestHold", desc := "(I)I" } : Jvm.MethodName)) ∈ lw_all := lw_g (lw_at lw_m6 205 rfl) rfl
theorem q1525 : (Jvm.Cond.code ({ cls := "SaltedGate", name := "bestHold", desc := "(I)I" } : Jvm.MethodName) prog_1_method_47_code (4 : Nat) (Option.some Jvm.ClassFile.FieldType.int)) ∈ lw_all := lw_g (lw_at lw_m6 206 rfl) rfl
theorem q1526 : (Jvm.Cond.methodLink "SaltedGate" (305 : Nat) ({ cls := "SaltedGate", name := "holdOf", desc := "(II)I" } : Jvm.MethodName)) ∈ lw_all := lw_g (lw_at lw_m6 207 rfl) rfl
theorem q1527 : (Jvm.Cond.privateMethod ({ cls := "SaltedGate", name := "holdOf", desc := "(II)I" } : Jvm.MethodName)) ∈ lw_tbl := lw_at lw_m6 208 rfl
theorem q1528 : (Jvm.Cond.instanceMethod ({ cls := "SaltedGate", name := "holdOf", desc := "(II)I" } : Jvm.MethodName)) ∈ lw_all := lw_g (lw_at lw_m6 209 rfl) rfl
theorem q1529 : (Jvm.Cond.code ({ cls := "SaltedGate", name := "holdOf", desc := "(II)I" } : Jvm.MethodName) prog_1_method_46_code (4 : Nat) (Option.some Jvm.ClassFile.FieldType.int)) ∈ lw_all := lw_g (lw_at lw_m6 210 rfl) rfl
theorem q1531 : (Jvm.Cond.instanceMethod ({ cls := "SaltedGate", name := "holdGain", desc := "(I)I" } : Jvm.MethodName)) ∈ lw_all := lw_g (lw_at lw_m6 212 rfl) rfl
theorem q1532 : (Jvm.Cond.selects "SaltedGate" ({ cls := "SaltedGate", name := "holdGain", desc := "(I)I" } : Jvm.MethodName) ({ cls := "SaltedGate", name := "holdGain", desc := "(I)I" } : Jvm.MethodName)) ∈ lw_all := lw_g (lw_at lw_m6 213 rfl) rfl
theorem q1533 : (Jvm.Cond.code ({ cls := "SaltedGate", name := "holdGain", desc := "(I)I" } : Jvm.MethodName) prog_1_method_49_code (2 : Nat) (Option.some Jvm.ClassFile.FieldType.int)) ∈ lw_all := lw_g (lw_at lw_m6 214 rfl) rfl
theorem q1534 : (Jvm.Cond.methodLink "SaltedGate" (311 : Nat) ({ cls := "SaltedGate", name := "less", desc := "(I)I" } : Jvm.MethodName)) ∈ lw_all := lw_g (lw_at lw_m6 215 rfl) rfl
theorem q1535 : (Jvm.Cond.privateMethod ({ cls := "SaltedGate", name := "less", desc := "(I)I" } : Jvm.MethodName)) ∈ lw_tbl := lw_at lw_m6 216 rfl
theorem q1536 : (Jvm.Cond.instanceMethod ({ cls := "SaltedGate", name := "less", desc := "(I)I" } : Jvm.MethodName)) ∈ lw_all := lw_g (lw_at lw_m6 217 rfl) rfl
theorem q1537 : (Jvm.Cond.code ({ cls := "SaltedGate", name := "less", desc := "(I)I" } : Jvm.MethodName) prog_1_method_8_code (2 : Nat) (Option.some Jvm.ClassFile.FieldType.int)) ∈ lw_all := lw_g (lw_at lw_m6 218 rfl) rfl
theorem q1539 : (Jvm.Cond.instanceMethod ({ cls := "SaltedGate", name := "gain", desc := "(II)I" } : Jvm.MethodName)) ∈ lw_all := lw_g (lw_at lw_m6 220 rfl) rfl
theorem q1540 : (Jvm.Cond.selects "SaltedGate" ({ cls := "SaltedGate", name := "gain", desc := "(II)I" } : Jvm.MethodName) ({ cls := "SaltedGate", name := "gain", desc := "(II)I" } : Jvm.MethodName)) ∈ lw_all := lw_g (lw_at lw_m6 221 rfl) rfl
theorem q1541 : (Jvm.Cond.code ({ cls := "SaltedGate", name := "gain", desc := "(II)I" } : Jvm.MethodName) prog_1_method_50_code (4 : Nat) (Option.some Jvm.ClassFile.FieldType.int)) ∈ lw_all := lw_g (lw_at lw_m6 222 rfl) rfl
theorem q1542 : (Jvm.Cond.methodLink "SaltedGate" (314 : Nat) ({ cls := "SaltedGate$Good", name := "gain", desc := "(ILSaltedGate$Law;)I" } : Jvm.MethodName)) ∈ lw_all := lw_g (lw_at lw_m6 223 rfl) rfl
theorem q1556 : (Jvm.Cond.instanceMethod ({ cls := "SaltedGate", name := "bestGood", desc := "()I" } : Jvm.MethodName)) ∈ lw_all := lw_g (lw_at lw_m6 237 rfl) rfl
theorem q1557 : (Jvm.Cond.selects "SaltedGate" ({ cls := "SaltedGate", name := "bestGood", desc := "()I" } : Jvm.MethodName) ({ cls := "SaltedGate", name := "bestGood", desc := "()I" } : Jvm.MethodName)) ∈ lw_all := lw_g (lw_at lw_m6 238 rfl) rfl
theorem q1558 : (Jvm.Cond.code ({ cls := "SaltedGate", name := "bestGood", desc := "()I" } : Jvm.MethodName) prog_1_method_51_code (6 : Nat) (Option.some Jvm.ClassFile.FieldType.int)) ∈ lw_all := lw_g (lw_at lw_m6 239 rfl) rfl
theorem q1560 : (Jvm.Cond.instanceMethod ({ cls := "SaltedGate", name := "search", desc := "(I)I" } : Jvm.MethodName)) ∈ lw_all := lw_g (lw_at lw_m7 1 rfl) rfl
theorem q1561 : (Jvm.Cond.selects "SaltedGate" ({ cls := "SaltedGate", name := "search", desc := "(I)I" } : Jvm.MethodName) ({ cls := "SaltedGate", name := "search", desc := "(I)I" } : Jvm.MethodName)) ∈ lw_all := lw_g (lw_at lw_m7 2 rfl) rfl
theorem q1562 : (Jvm.Cond.code ({ cls := "SaltedGate", name := "search", desc := "(I)I" } : Jvm.MethodName) prog_1_method_53_code (5 : Nat) (Option.some Jvm.ClassFile.FieldType.int)) ∈ lw_all := lw_g (lw_at lw_m7 3 rfl) rfl
theorem q1563 : (Jvm.Cond.methodLink "SaltedGate" (317 : Nat) ({ cls := "java/lang/Math", name := "min", desc := "(II)I" } : Jvm.MethodName)) ∈ lw_all := lw_g (lw_at lw_m7 4 rfl) rfl
theorem q1566 : (Jvm.Cond.methodLink "SaltedGate" (320 : Nat) ({ cls := "SaltedGate", name := "ones", desc := "(I)I" } : Jvm.MethodName)) ∈ lw_all := lw_g (lw_at lw_m7 7 rfl) rfl
theorem q1567 : (Jvm.Cond.methodLink "SaltedGate" (323 : Nat) ({ cls := "SaltedGate", name := "hiddenWorth", desc := "(I)I" } : Jvm.MethodName)) ∈ lw_all := lw_g (lw_at lw_m7 8 rfl) rfl
theorem q1568 : (Jvm.Cond.privateMethod ({ cls := "SaltedGate", name := "hiddenWorth", desc := "(I)I" } : Jvm.MethodName)) ∈ lw_tbl := lw_at lw_m7 9 rfl
theorem q1569 : (Jvm.Cond.instanceMethod ({ cls := "SaltedGate", name := "hiddenWorth", desc := "(I)I" } : Jvm.MethodName)) ∈ lw_all := lw_g (lw_at lw_m7 10 rfl) rfl
theorem q1570 : (Jvm.Cond.code ({ cls := "SaltedGate", name := "hiddenWorth", desc := "(I)I" } : Jvm.MethodName) prog_1_method_52_code (4 : Nat) (Option.some Jvm.ClassFile.FieldType.int)) ∈ lw_all := lw_g (lw_at lw_m7 11 rfl) rfl
theorem q1572 : (Jvm.Cond.instanceMethod ({ cls := "SaltedGate", name := "planned", desc := "(I)I" } : Jvm.MethodName)) ∈ lw_all := lw_g (lw_at lw_m7 13 rfl) rfl
theorem q1573 : (Jvm.Cond.selects "SaltedGate" ({ cls := "SaltedGate", name := "planned", desc := "(I)I" } : Jvm.MethodName) ({ cls := "SaltedGate", name := "planned", desc := "(I)I" } : Jvm.MethodName)) ∈ lw_all := lw_g (lw_at lw_m7 14 rfl) rfl
theorem q1574 : (Jvm.Cond.code ({ cls := "SaltedGate", name := "planned", desc := "(I)I" } : Jvm.MethodName) prog_1_method_54_code (2 : Nat) (Option.some Jvm.ClassFile.FieldType.int)) ∈ lw_all := lw_g (lw_at lw_m7 15 rfl) rfl
theorem q1575 : (Jvm.Cond.methodLink "SaltedGate" (329 : Nat) ({ cls := "SaltedGate$Course", name := "asked", desc := "(I)I" } : Jvm.MethodName)) ∈ lw_all := lw_g (lw_at lw_m7 16 rfl) rfl
theorem q1580 : (Jvm.Cond.instanceMethod ({ cls := "SaltedGate", name := "judge", desc := "()I" } : Jvm.MethodName)) ∈ lw_all := lw_g (lw_at lw_m7 21 rfl) rfl
theorem q1581 : (Jvm.Cond.selects "SaltedGate" ({ cls := "SaltedGate", name := "judge", desc := "()I" } : Jvm.MethodName) ({ cls := "SaltedGate", name := "judge", desc := "()I" } : Jvm.MethodName)) ∈ lw_all := lw_g (lw_at lw_m7 22 rfl) rfl
theorem q1582 : (Jvm.Cond.code ({ cls := "SaltedGate", name := "judge", desc := "()I" } : Jvm.MethodName) prog_1_method_55_code (2 : Nat) (Option.some Jvm.ClassFile.FieldType.int)) ∈ lw_all := lw_g (lw_at lw_m7 23 rfl) rfl
theorem q1584 : (Jvm.Cond.instanceMethod ({ cls := "SaltedGate", name := "planOver", desc := "(Z)I" } : Jvm.MethodName)) ∈ lw_all := lw_g (lw_at lw_m7 25 rfl) rfl
theorem q1585 : (Jvm.Cond.selects "SaltedGate" ({ cls := "SaltedGate", name := "planOver", desc := "(Z)I" } : Jvm.MethodName) ({ cls := "SaltedGate", name := "planOver", desc := "(Z)I" } : Jvm.MethodName)) ∈ lw_all := lw_g (lw_at lw_m7 26 rfl) rfl
theorem q1586 : (Jvm.Cond.code ({ cls := "SaltedGate", name := "planOver", desc := "(Z)I" } : Jvm.MethodName) prog_1_method_56_code (2 : Nat) (Option.some Jvm.ClassFile.FieldType.int)) ∈ lw_all := lw_g (lw_at lw_m7 27 rfl) rfl
theorem q1587 : (Jvm.Cond.methodLink "SaltedGate" (331 : Nat) ({ cls := "SaltedGate$Course", name := "all", desc := "(I)I" } : Jvm.MethodName)) ∈ lw_all := lw_g (lw_at lw_m7 28 rfl) rfl
theorem q1596 : (Jvm.Cond.instanceMethod ({ cls := "SaltedGate", name := "fits", desc := "()I" } : Jvm.MethodName)) ∈ lw_all := lw_g (lw_at lw_m7 37 rfl) rfl
theorem q1597 : (Jvm.Cond.selects "SaltedGate" ({ cls := "SaltedGate", name := "fits", desc := "()I" } : Jvm.MethodName) ({ cls := "SaltedGate", name := "fits", desc := "()I" } : Jvm.MethodName)) ∈ lw_all := lw_g (lw_at lw_m7 38 rfl) rfl
theorem q1598 : (Jvm.Cond.code ({ cls := "SaltedGate", name := "fits", desc := "()I" } : Jvm.MethodName) prog_1_method_57_code (1 : Nat) (Option.some Jvm.ClassFile.FieldType.int)) ∈ lw_all := lw_g (lw_at lw_m7 39 rfl) rfl
theorem q1599 : (Jvm.Cond.methodLink "SaltedGate" (337 : Nat) ({ cls := "SaltedGate$Crumbs", name := "seek", desc := "(LSaltedGate$Barrier;)V" } : Jvm.MethodName)) ∈ lw_all := lw_g (lw_at lw_m7 40 rfl) rfl
theorem q1614 : (Jvm.Cond.instanceMethod ({ cls := "SaltedGate", name := "could", desc := "(I)I" } : Jvm.MethodName)) ∈ lw_all := lw_g (lw_at lw_m7 55 rfl) rfl
theorem q1615 : (Jvm.Cond.selects "SaltedGate" ({ cls := "SaltedGate", name := "could", desc := "(I)I" } : Jvm.MethodName) ({ cls := "SaltedGate", name := "could", desc := "(I)I" } : Jvm.MethodName)) ∈ lw_all := lw_g (lw_at lw_m7 56 rfl) rfl
theorem q1616 : (Jvm.Cond.code ({ cls := "SaltedGate", name := "could", desc := "(I)I" } : Jvm.MethodName) prog_1_method_59_code (2 : Nat) (Option.some Jvm.ClassFile.FieldType.int)) ∈ lw_all := lw_g (lw_at lw_m7 57 rfl) rfl
theorem q1617 : (Jvm.Cond.methodLink "SaltedGate" (342 : Nat) ({ cls := "SaltedGate", name := "isCrumb", desc := "(I)Z" } : Jvm.MethodName)) ∈ lw_all := lw_g (lw_at lw_m7 58 rfl) rfl
theorem q1618 : (Jvm.Cond.privateMethod ({ cls := "SaltedGate", name := "isCrumb", desc := "(I)Z" } : Jvm.MethodName)) ∈ lw_tbl := lw_at lw_m7 59 rfl
theorem q1619 : (Jvm.Cond.instanceMethod ({ cls := "SaltedGate", name := "isCrumb", desc := "(I)Z" } : Jvm.MethodName)) ∈ lw_all := lw_g (lw_at lw_m7 60 rfl) rfl
theorem q1620 : (Jvm.Cond.code ({ cls := "SaltedGate", name := "isCrumb", desc := "(I)Z" } : Jvm.MethodName) prog_1_method_58_code (2 : Nat) (Option.some Jvm.ClassFile.FieldType.boolean)) ∈ lw_all := lw_g (lw_at lw_m7 61 rfl) rfl
theorem q1621 : (Jvm.Cond.methodLink "SaltedGate" (345 : Nat) ({ cls := "SaltedGate$Crumbs", name := "could", desc := "(I)I" } : Jvm.MethodName)) ∈ lw_all := lw_g (lw_at lw_m7 62 rfl) rfl
theorem q1626 : (Jvm.Cond.instanceMethod ({ cls := "SaltedGate", name := "surely", desc := "(I)I" } : Jvm.MethodName)) ∈ lw_all := lw_g (lw_at lw_m7 67 rfl) rfl
theorem q1627 : (Jvm.Cond.selects "SaltedGate" ({ cls := "SaltedGate", name := "surely", desc := "(I)I" } : Jvm.MethodName) ({ cls := "SaltedGate", name := "surely", desc := "(I)I" } : Jvm.MethodName)) ∈ lw_all := lw_g (lw_at lw_m7 68 rfl) rfl
theorem q1628 : (Jvm.Cond.code ({ cls := "SaltedGate", name := "surely", desc := "(I)I" } : Jvm.MethodName) prog_1_method_60_code (2 : Nat) (Option.some Jvm.ClassFile.FieldType.int)) ∈ lw_all := lw_g (lw_at lw_m7 69 rfl) rfl
theorem q1629 : (Jvm.Cond.methodLink "SaltedGate" (348 : Nat) ({ cls := "SaltedGate$Crumbs", name := "surely", desc := "(I)I" } : Jvm.MethodName)) ∈ lw_all := lw_g (lw_at lw_m7 70 rfl) rfl
theorem q1635 : (Jvm.Cond.instanceMethod ({ cls := "SaltedGate", name := "owed", desc := "(IIZ)J" } : Jvm.MethodName)) ∈ lw_all := lw_g (lw_at lw_m7 76 rfl) rfl
theorem q1636 : (Jvm.Cond.selects "SaltedGate" ({ cls := "SaltedGate", name := "owed", desc := "(IIZ)J" } : Jvm.MethodName) ({ cls := "SaltedGate", name := "owed", desc := "(IIZ)J" } : Jvm.MethodName)) ∈ lw_all := lw_g (lw_at lw_m7 77 rfl) rfl
theorem q1637 : (Jvm.Cond.code ({ cls := "SaltedGate", name := "owed", desc := "(IIZ)J" } : Jvm.MethodName) prog_1_method_61_code (9 : Nat) (Option.some Jvm.ClassFile.FieldType.long)) ∈ lw_all := lw_g (lw_at lw_m7 78 rfl) rfl
theorem q1638 : (Jvm.Cond.constantLong "SaltedGate" (354 : Nat) (100 : Int64)) ∈ lw_all := lw_g (lw_at lw_m7 79 rfl) rfl
theorem q1639 : (Jvm.Cond.methodLink "SaltedGate" (1 : Nat) ({ cls := "SaltedGate", name := "dividing", desc := "(JJ)J" } : Jvm.MethodName)) ∈ lw_all := lw_g (lw_at lw_m7 80 rfl) rfl
theorem q1640 : (Jvm.Cond.static ({ cls := "SaltedGate", name := "dividing", desc := "(JJ)J" } : Jvm.MethodName)) ∈ lw_all := lw_g (lw_at lw_m7 81 rfl) rfl
theorem q1641 : (Jvm.Cond.code ({ cls := "SaltedGate", name := "dividing", desc := "(JJ)J" } : Jvm.MethodName) prog_1_method_4_code (4 : Nat) (Option.some Jvm.ClassFile.FieldType.long)) ∈ lw_all := lw_g (lw_at lw_m7 82 rfl) rfl
theorem q1643 : (Jvm.Cond.instanceMethod ({ cls := "SaltedGate", name := "season", desc := "(I)I" } : Jvm.MethodName)) ∈ lw_all := lw_g (lw_at lw_m7 84 rfl) rfl
theorem q1644 : (Jvm.Cond.selects "SaltedGate" ({ cls := "SaltedGate", name := "season", desc := "(I)I" } : Jvm.MethodName) ({ cls := "SaltedGate", name := "season", desc := "(I)I" } : Jvm.MethodName)) ∈ lw_all := lw_g (lw_at lw_m7 85 rfl) rfl
theorem q1645 : (Jvm.Cond.code ({ cls := "SaltedGate", name := "season", desc := "(I)I" } : Jvm.MethodName) prog_1_method_62_code (2 : Nat) (Option.some Jvm.ClassFile.FieldType.int)) ∈ lw_all := lw_g (lw_at lw_m7 86 rfl) rfl
theorem q1646 : (Jvm.Cond.constant "SaltedGate" (356 : Nat) (65536 : Int32)) ∈ lw_all := lw_g (lw_at lw_m7 87 rfl) rfl
theorem q1647 : (Jvm.Cond.methodLink "SaltedGate" (357 : Nat) ({ cls := "SaltedGate$Course", name := "sum", desc := "()I" } : Jvm.MethodName)) ∈ lw_all := lw_g (lw_at lw_m7 88 rfl) rfl
theorem q1652 : (Jvm.Cond.instanceMethod ({ cls := "SaltedGate", name := "seizedIn", desc := "(III)I" } : Jvm.MethodName)) ∈ lw_all := lw_g (lw_at lw_m7 93 rfl) rfl
theorem q1653 : (Jvm.Cond.selects "SaltedGate" ({ cls := "SaltedGate", name := "seizedIn", desc := "(III)I" } : Jvm.MethodName) ({ cls := "SaltedGate", name := "seizedIn", desc := "(III)I" } : Jvm.MethodName)) ∈ lw_all := lw_g (lw_at lw_m7 94 rfl) rfl
theorem q1654 : (Jvm.Cond.code ({ cls := "SaltedGate", name := "seizedIn", desc := "(III)I" } : Jvm.MethodName) prog_1_method_63_code (7 : Nat) (Option.some Jvm.ClassFile.FieldType.int)) ∈ lw_all := lw_g (lw_at lw_m7 95 rfl) rfl
theorem q1656 : (Jvm.Cond.instanceMethod ({ cls := "SaltedGate", name := "eat", desc := "(I)Z" } : Jvm.MethodName)) ∈ lw_all := lw_g (lw_at lw_m7 97 rfl) rfl
theorem q1657 : (Jvm.Cond.selects "SaltedGate" ({ cls := "SaltedGate", name := "eat", desc := "(I)Z" } : Jvm.MethodName) ({ cls := "SaltedGate", name := "eat", desc := "(I)Z" } : Jvm.MethodName)) ∈ lw_all := lw_g (lw_at lw_m7 98 rfl) rfl
theorem q1658 : (Jvm.Cond.code ({ cls := "SaltedGate", name := "eat", desc := "(I)Z" } : Jvm.MethodName) prog_1_method_66_code (2 : Nat) (Option.some Jvm.ClassFile.FieldType.boolean)) ∈ lw_all := lw_g (lw_at lw_m7 99 rfl) rfl
theorem q1659 : (Jvm.Cond.methodLink "SaltedGate" (364 : Nat) ({ cls := "SaltedGate", name := "yes", desc := "(I)Z" } : Jvm.MethodName)) ∈ lw_all := lw_g (lw_at lw_m7 100 rfl) rfl
theorem q1660 : (Jvm.Cond.privateMethod ({ cls := "SaltedGate", name := "yes", desc := "(I)Z" } : Jvm.MethodName)) ∈ lw_tbl := lw_at lw_m7 101 rfl
theorem q1661 : (Jvm.Cond.instanceMethod ({ cls := "SaltedGate", name := "yes", desc := "(I)Z" } : Jvm.MethodName)) ∈ lw_all := lw_g (lw_at lw_m7 102 rfl) rfl
theorem q1662 : (Jvm.Cond.code ({ cls := "SaltedGate", name := "yes", desc := "(I)Z" } : Jvm.MethodName) prog_1_method_9_code (2 : Nat) (Option.some Jvm.ClassFile.FieldType.boolean)) ∈ lw_all := lw_g (lw_at lw_m7 103 rfl) rfl
theorem q1663 : (Jvm.Cond.methodLink "SaltedGate" (367 : Nat) ({ cls := "SaltedGate", name := "note", desc := "()V" } : Jvm.MethodName)) ∈ lw_all := lw_g (lw_at lw_m7 104 rfl) rfl
theorem q1664 : (Jvm.Cond.privateMethod ({ cls := "SaltedGate", name := "note", desc := "()V" } : Jvm.MethodName)) ∈ lw_tbl := lw_at lw_m7 105 rfl
theorem q1665 : (Jvm.Cond.instanceMethod ({ cls := "SaltedGate", name := "note", desc := "()V" } : Jvm.MethodName)) ∈ lw_all := lw_g (lw_at lw_m7 106 rfl) rfl
theorem q1666 : (Jvm.Cond.code ({ cls := "SaltedGate", name := "note", desc := "()V" } : Jvm.MethodName) prog_1_method_64_code (1 : Nat) (Option.none : Option Jvm.ClassFile.FieldType)) ∈ lw_all := lw_g (lw_at lw_m7 107 rfl) rfl
theorem q1667 : (Jvm.Cond.methodLink "SaltedGate" (360 : Nat) ({ cls := "SaltedGate$Load", name := "become", desc := "(LSaltedGate$Load;)V" } : Jvm.MethodName)) ∈ lw_all := lw_g (lw_at lw_m7 108 rfl) rfl
theorem q1668 : (Jvm.Cond.methodLink "SaltedGate" (373 : Nat) ({ cls := "SaltedGate", name := "done", desc := "()Z" } : Jvm.MethodName)) ∈ lw_all := lw_g (lw_at lw_m7 109 rfl) rfl
theorem q1669 : (Jvm.Cond.privateMethod ({ cls := "SaltedGate", name := "done", desc := "()Z" } : Jvm.MethodName)) ∈ lw_tbl := lw_at lw_m7 110 rfl
theorem q1670 : (Jvm.Cond.instanceMethod ({ cls := "SaltedGate", name := "done", desc := "()Z" } : Jvm.MethodName)) ∈ lw_all := lw_g (lw_at lw_m7 111 rfl) rfl
theorem q1671 : (Jvm.Cond.code ({ cls := "SaltedGate", name := "done", desc := "()Z" } : Jvm.MethodName) prog_1_method_65_code (3 : Nat) (Option.some Jvm.ClassFile.FieldType.boolean)) ∈ lw_all := lw_g (lw_at lw_m7 112 rfl) rfl
theorem q1673 : (Jvm.Cond.instanceMethod ({ cls := "SaltedGate", name := "hide", desc := "(IZ)Z" } : Jvm.MethodName)) ∈ lw_all := lw_g (lw_at lw_m7 114 rfl) rfl
theorem q1674 : (Jvm.Cond.selects "SaltedGate" ({ cls := "SaltedGate", name := "hide", desc := "(IZ)Z" } : Jvm.MethodName) ({ cls := "SaltedGate", name := "hide", desc := "(IZ)Z" } : Jvm.MethodName)) ∈ lw_all := lw_g (lw_at lw_m7 115 rfl) rfl
theorem q1675 : (Jvm.Cond.code ({ cls := "SaltedGate", name := "hide", desc := "(IZ)Z" } : Jvm.MethodName) prog_1_method_67_code (3 : Nat) (Option.some Jvm.ClassFile.FieldType.boolean)) ∈ lw_all := lw_g (lw_at lw_m7 116 rfl) rfl
theorem q1677 : (Jvm.Cond.instanceMethod ({ cls := "SaltedGate", name := "cross", desc := "(II)I" } : Jvm.MethodName)) ∈ lw_all := lw_g (lw_at lw_m7 118 rfl) rfl
theorem q1678 : (Jvm.Cond.selects "SaltedGate" ({ cls := "SaltedGate", name := "cross", desc := "(II)I" } : Jvm.MethodName) ({ cls := "SaltedGate", name := "cross", desc := "(II)I" } : Jvm.MethodName)) ∈ lw_all := lw_g (lw_at lw_m7 119 rfl) rfl
theorem q1679 : (Jvm.Cond.code ({ cls := "SaltedGate", name := "cross", desc := "(II)I" } : Jvm.MethodName) prog_1_method_68_code (4 : Nat) (Option.some Jvm.ClassFile.FieldType.int)) ∈ lw_all := lw_g (lw_at lw_m7 120 rfl) rfl
theorem q1680 : (Jvm.Cond.methodLink "SaltedGate" (377 : Nat) ({ cls := "SaltedGate$Load", name := "crosses", desc := "(IIILSaltedGate$Law;)I" } : Jvm.MethodName)) ∈ lw_all := lw_g (lw_at lw_m7 121 rfl) rfl
theorem q1682 : (Jvm.Cond.instanceMethod ({ cls := "SaltedGate", name := "days", desc := "(I)I" } : Jvm.MethodName)) ∈ lw_all := lw_g (lw_at lw_m7 123 rfl) rfl
theorem q1683 : (Jvm.Cond.selects "SaltedGate" ({ cls := "SaltedGate", name := "days", desc := "(I)I" } : Jvm.MethodName) ({ cls := "SaltedGate", name := "days", desc := "(I)I" } : Jvm.MethodName)) ∈ lw_all := lw_g (lw_at lw_m7 124 rfl) rfl
theorem q1684 : (Jvm.Cond.code ({ cls := "SaltedGate", name := "days", desc := "(I)I" } : Jvm.MethodName) prog_1_method_69_code (2 : Nat) (Option.some Jvm.ClassFile.FieldType.int)) ∈ lw_all := lw_g (lw_at lw_m7 125 rfl) rfl
theorem q1686 : (Jvm.Cond.instanceMethod ({ cls := "SaltedGate", name := "undo", desc := "()Z" } : Jvm.MethodName)) ∈ lw_all := lw_g (lw_at lw_m7 127 rfl) rfl
theorem q1687 : (Jvm.Cond.selects "SaltedGate" ({ cls := "SaltedGate", name := "undo", desc := "()Z" } : Jvm.MethodName) ({ cls := "SaltedGate", name := "undo", desc := "()Z" } : Jvm.MethodName)) ∈ lw_all := lw_g (lw_at lw_m7 128 rfl) rfl
theorem q1688 : (Jvm.Cond.code ({ cls := "SaltedGate", name := "undo", desc := "()Z" } : Jvm.MethodName) prog_1_method_70_code (1 : Nat) (Option.some Jvm.ClassFile.FieldType.boolean)) ∈ lw_all := lw_g (lw_at lw_m7 129 rfl) rfl
theorem q1690 : (Jvm.Cond.instanceMethod ({ cls := "SaltedGate", name := "mark", desc := "()I" } : Jvm.MethodName)) ∈ lw_all := lw_g (lw_at lw_m7 131 rfl) rfl
theorem q1691 : (Jvm.Cond.selects "SaltedGate" ({ cls := "SaltedGate", name := "mark", desc := "()I" } : Jvm.MethodName) ({ cls := "SaltedGate", name := "mark", desc := "()I" } : Jvm.MethodName)) ∈ lw_all := lw_g (lw_at lw_m7 132 rfl) rfl
theorem q1692 : (Jvm.Cond.code ({ cls := "SaltedGate", name := "mark", desc := "()I" } : Jvm.MethodName) prog_1_method_71_code (1 : Nat) (Option.some Jvm.ClassFile.FieldType.int)) ∈ lw_all := lw_g (lw_at lw_m7 133 rfl) rfl
theorem q1694 : (Jvm.Cond.instanceMethod ({ cls := "SaltedGate", name := "back", desc := "(I)Z" } : Jvm.MethodName)) ∈ lw_all := lw_g (lw_at lw_m7 135 rfl) rfl
theorem q1695 : (Jvm.Cond.selects "SaltedGate" ({ cls := "SaltedGate", name := "back", desc := "(I)Z" } : Jvm.MethodName) ({ cls := "SaltedGate", name := "back", desc := "(I)Z" } : Jvm.MethodName)) ∈ lw_all := lw_g (lw_at lw_m7 136 rfl) rfl
theorem q1696 : (Jvm.Cond.code ({ cls := "SaltedGate", name := "back", desc := "(I)Z" } : Jvm.MethodName) prog_1_method_72_code (2 : Nat) (Option.some Jvm.ClassFile.FieldType.boolean)) ∈ lw_all := lw_g (lw_at lw_m7 137 rfl) rfl
theorem q1698 : (Jvm.Cond.instanceMethod ({ cls := "SaltedGate", name := "size", desc := "(I)I" } : Jvm.MethodName)) ∈ lw_all := lw_g (lw_at lw_m7 139 rfl) rfl
theorem q1699 : (Jvm.Cond.selects "SaltedGate" ({ cls := "SaltedGate", name := "size", desc := "(I)I" } : Jvm.MethodName) ({ cls := "SaltedGate", name := "size", desc := "(I)I" } : Jvm.MethodName)) ∈ lw_all := lw_g (lw_at lw_m7 140 rfl) rfl
theorem q1700 : (Jvm.Cond.code ({ cls := "SaltedGate", name := "size", desc := "(I)I" } : Jvm.MethodName) prog_1_method_74_code (2 : Nat) (Option.some Jvm.ClassFile.FieldType.int)) ∈ lw_all := lw_g (lw_at lw_m7 141 rfl) rfl
theorem q1702 : (Jvm.Cond.instanceMethod ({ cls := "SaltedGate", name := "trouble", desc := "()I" } : Jvm.MethodName)) ∈ lw_all := lw_g (lw_at lw_m7 143 rfl) rfl
theorem q1703 : (Jvm.Cond.selects "SaltedGate" ({ cls := "SaltedGate", name := "trouble", desc := "()I" } : Jvm.MethodName) ({ cls := "SaltedGate", name := "trouble", desc := "()I" } : Jvm.MethodName)) ∈ lw_all := lw_g (lw_at lw_m7 144 rfl) rfl
theorem q1704 : (Jvm.Cond.code ({ cls := "SaltedGate", name := "trouble", desc := "()I" } : Jvm.MethodName) prog_1_method_75_code (1 : Nat) (Option.some Jvm.ClassFile.FieldType.int)) ∈ lw_all := lw_g (lw_at lw_m7 145 rfl) rfl
theorem q1710 : (Jvm.Cond.instanceMethod ({ cls := "SaltedGate", name := "led", desc := "(I)I" } : Jvm.MethodName)) ∈ lw_all := lw_g (lw_at lw_m7 151 rfl) rfl
theorem q1711 : (Jvm.Cond.selects "SaltedGate" ({ cls := "SaltedGate", name := "led", desc := "(I)I" } : Jvm.MethodName) ({ cls := "SaltedGate", name := "led", desc := "(I)I" } : Jvm.MethodName)) ∈ lw_all := lw_g (lw_at lw_m7 152 rfl) rfl
theorem q1712 : (Jvm.Cond.code ({ cls := "SaltedGate", name := "led", desc := "(I)I" } : Jvm.MethodName) prog_1_method_73_code (4 : Nat) (Option.some Jvm.ClassFile.FieldType.int)) ∈ lw_all := lw_g (lw_at lw_m7 153 rfl) rfl
theorem q1713 : (Jvm.Cond.classLink "SaltedGate" (380 : Nat) "java/util/NoSuchElementException") ∈ lw_all := lw_g (lw_at lw_m7 154 rfl) rfl
theorem q1722 : (Jvm.Cond.methodLink "SaltedGate" (382 : Nat) ({ cls := "java/util/NoSuchElementException", name := "<init>", desc := "()V" } : Jvm.MethodName)) ∈ lw_all := lw_g (lw_at lw_m7 163 rfl) rfl
theorem q2560 : (Jvm.Cond.castable "SaltedGate" "java/lang/Object") ∈ lw_tbl := lw_at lw_m11 41 rfl
theorem in_X1 : ∀ w ∈ wsX10, w ∈ lw_all := lw_in wsX10 [442, 444, 446, 448, 450, 452, 454, 456, 458, 460, 462, 464, 466, 468, 470, 472, 474, 476, 478, 480] (by decide +kernel) (by decide +kernel)

/-! SaltedGate$Refused -/
set_option maxRecDepth 100000
def RX3 : String := "SaltedGate$Refused"
def TX3 : u_T := fun k => match k with
  | 0 => ("java/lang/Throwable", "cause", "Ljava/lang/Throwable;", false)
  | 1 => ("java/lang/Throwable", "stackTrace", "[Ljava/lang/StackTraceElement;", false)
  | 2 => ("java/lang/Throwable", "suppressedExceptions", "Ljava/util/List;", false)
  | 3 => ("java/lang/Throwable", "detailMessage", "Ljava/lang/String;", false)
  | 4 => ("java/lang/Throwable", "backtrace", "Ljava/lang/Object;", false)
  | 5 => ("java/lang/Throwable", "depth", "I", false)
  | 6 => ("SaltedGate$Refused", "fault", "I", false)
  | _ => ("SaltedGate$Refused", "place", "I", false)
def tyX3 : Nat → FieldType := fun k => match k with
  | 0 => .object "java/lang/Throwable"
  | 1 => .array (.object "java/lang/StackTraceElement")
  | 2 => .object "java/util/List"
  | 3 => .object "java/lang/String"
  | 4 => .object "java/lang/Object"
  | 5 => .int
  | 6 => .int
  | _ => .int
abbrev wsX30 : List Cond := u_ws RX3 TX3 8
theorem nmX3 : ∀ a, a < 8 → ∀ b, b < 8 → a ≠ b → (TX3 a).2.1 ≠ (TX3 b).2.1 := by decide +kernel
theorem tyX3_ok : ∀ k, k < 8 → parseFieldDescriptor (TX3 k).2.2.1 = some (tyX3 k) := by decide +kernel
abbrev cX3_init : ByteArray := prog_23_method_1_code
def yX3_init : MethodName := ⟨RX3, "<init>", "()V"⟩
def dkwX3_init_0 : List UInt8 := [42, 1, 1, 3, 3, 183, 0, 3, 42, 2, 181, 0, 9, 177]
abbrev dktX3_init_0 : List UInt8 := dkwX3_init_0 ++ []
theorem dksX3_init_0 : cX3_init.data.toList.drop 0 = dktX3_init_0 := by decide +kernel
theorem dX3_init_0 : decode cX3_init 0 = .ok (.aload_n 0, 1) := dk_42 (dk_at dksX3_init_0 0 rfl rfl)
theorem dX3_init_1 : decode cX3_init 1 = .ok (.aconst_null, 1) := dk_1 (dk_at dksX3_init_0 1 rfl rfl)
theorem dX3_init_2 : decode cX3_init 2 = .ok (.aconst_null, 1) := dk_1 (dk_at dksX3_init_0 2 rfl rfl)
theorem dX3_init_3 : decode cX3_init 3 = .ok (.iconst 0, 1) := dk_3 (dk_at dksX3_init_0 3 rfl rfl)
theorem dX3_init_4 : decode cX3_init 4 = .ok (.iconst 0, 1) := dk_3 (dk_at dksX3_init_0 4 rfl rfl)
theorem dX3_init_5 : decode cX3_init 5 = .ok (.invokespecial 3, 3) := dk_183 0 3 (dk_at dksX3_init_0 5 rfl rfl)
theorem dX3_init_8 : decode cX3_init 8 = .ok (.aload_n 0, 1) := dk_42 (dk_at dksX3_init_0 8 rfl rfl)
theorem dX3_init_9 : decode cX3_init 9 = .ok (.iconst (-1), 1) := dk_2 (dk_at dksX3_init_0 9 rfl rfl)
theorem dX3_init_10 : decode cX3_init 10 = .ok (.putfield 9, 3) := dk_181 0 9 (dk_at dksX3_init_0 10 rfl rfl)
theorem dX3_init_13 : decode cX3_init 13 = .ok (.return_, 1) := dk_177 (dk_at dksX3_init_0 13 rfl rfl)
abbrev cX3_at : ByteArray := prog_23_method_2_code
def yX3_at : MethodName := ⟨RX3, "at", "(II)LSaltedGate$Refused;"⟩
def dkwX3_at_0 : List UInt8 := [42, 27, 181, 0, 15, 42, 28, 181, 0, 9, 42, 176]
abbrev dktX3_at_0 : List UInt8 := dkwX3_at_0 ++ []
theorem dksX3_at_0 : cX3_at.data.toList.drop 0 = dktX3_at_0 := by decide +kernel
theorem dX3_at_0 : decode cX3_at 0 = .ok (.aload_n 0, 1) := dk_42 (dk_at dksX3_at_0 0 rfl rfl)
theorem dX3_at_1 : decode cX3_at 1 = .ok (.iload_n 1, 1) := dk_27 (dk_at dksX3_at_0 1 rfl rfl)
theorem dX3_at_2 : decode cX3_at 2 = .ok (.putfield 15, 3) := dk_181 0 15 (dk_at dksX3_at_0 2 rfl rfl)
theorem dX3_at_5 : decode cX3_at 5 = .ok (.aload_n 0, 1) := dk_42 (dk_at dksX3_at_0 5 rfl rfl)
theorem dX3_at_6 : decode cX3_at 6 = .ok (.iload_n 2, 1) := dk_28 (dk_at dksX3_at_0 6 rfl rfl)
theorem dX3_at_7 : decode cX3_at 7 = .ok (.putfield 9, 3) := dk_181 0 9 (dk_at dksX3_at_0 7 rfl rfl)
theorem dX3_at_10 : decode cX3_at 10 = .ok (.aload_n 0, 1) := dk_42 (dk_at dksX3_at_0 10 rfl rfl)
theorem dX3_at_11 : decode cX3_at 11 = .ok (.areturn, 1) := dk_176 (dk_at dksX3_at_0 11 rfl rfl)
theorem q125 : (Jvm.Cond.initialized "SaltedGate$Refused") ∈ lw_all := lw_g (lw_at lw_m1 6 rfl) rfl
theorem q173 : (Jvm.Cond.instantiable "SaltedGate$Refused" (8 : Nat)) ∈ lw_all := lw_g (lw_at lw_m1 54 rfl) rfl
theorem q174 : (Jvm.Cond.castable "SaltedGate$Refused" "SaltedGate$Refused") ∈ lw_tbl := lw_at lw_m1 55 rfl
theorem q181 : (Jvm.Cond.selects "SaltedGate$Refused" ({ cls := "java/lang/Throwable", name := "fillInStackTrace", desc := "(I)Ljava/lang/Throwable;" } : Jvm.MethodName) ({ cls := "java/lang/Throwable", name := "fillInStackTrace", desc := "(I)Ljava/lang/Throwable;" } : Jvm.MethodName)) ∈ lw_all := lw_g (lw_at lw_m1 62 rfl) rfl
theorem q182 : (Jvm.Cond.selects "SaltedGate$Refused" ({ cls := "java/lang/Throwable", name := "fillInStackTrace", desc := "()Ljava/lang/Throwable;" } : Jvm.MethodName) ({ cls := "java/lang/Throwable", name := "fillInStackTrace", desc := "()Ljava/lang/Throwable;" } : Jvm.MethodName)) ∈ lw_all := lw_g (lw_at lw_m1 63 rfl) rfl
theorem q183 : (Jvm.Cond.lays "SaltedGate$Refused" "java/lang/Throwable" "cause" "Ljava/lang/Throwable;") ∈ lw_all := lw_g (lw_at lw_m1 64 rfl) rfl
theorem q185 : (Jvm.Cond.lays "SaltedGate$Refused" "java/lang/Throwable" "stackTrace" "[Ljava/lang/StackTraceElement;") ∈ lw_all := lw_g (lw_at lw_m1 66 rfl) rfl
theorem q187 : (Jvm.Cond.lays "SaltedGate$Refused" "java/lang/Throwable" "suppressedExceptions" "Ljava/util/List;") ∈ lw_all := lw_g (lw_at lw_m1 68 rfl) rfl
theorem q189 : (Jvm.Cond.lays "SaltedGate$Refused" "java/lang/Throwable" "detailMessage" "Ljava/lang/String;") ∈ lw_all := lw_g (lw_at lw_m1 70 rfl) rfl
theorem q191 : (Jvm.Cond.lays "SaltedGate$Refused" "java/lang/Throwable" "backtrace" "Ljava/lang/Object;") ∈ lw_all := lw_g (lw_at lw_m1 72 rfl) rfl
theorem q213 : (Jvm.Cond.instanceMethod ({ cls := "SaltedGate$Refused", name := "<init>", desc := "()V" } : Jvm.MethodName)) ∈ lw_all := lw_g (lw_at lw_m1 94 rfl) rfl
theorem q214 : (Jvm.Cond.code ({ cls := "SaltedGate$Refused", name := "<init>", desc := "()V" } : Jvm.MethodName) prog_23_method_1_code (1 : Nat) (Option.none : Option Jvm.ClassFile.FieldType)) ∈ lw_all := lw_g (lw_at lw_m1 95 rfl) rfl
theorem q215 : (Jvm.Cond.methodLink "SaltedGate$Refused" (3 : Nat) ({ cls := "java/lang/RuntimeException", name := "<init>", desc := "(Ljava/lang/String;Ljava/lang/Throwable;ZZ)V" } : Jvm.MethodName)) ∈ lw_all := lw_g (lw_at lw_m1 96 rfl) rfl
theorem q224 : (Jvm.Cond.fieldLink "SaltedGate$Refused" (15 : Nat) "SaltedGate$Refused" "fault" "I") ∈ lw_all := lw_g (lw_at lw_m1 105 rfl) rfl
theorem q226 : (Jvm.Cond.fieldLink "SaltedGate$Refused" (9 : Nat) "SaltedGate$Refused" "place" "I") ∈ lw_all := lw_g (lw_at lw_m1 107 rfl) rfl
theorem q233 : (Jvm.Cond.lays "SaltedGate$Refused" "SaltedGate$Refused" "fault" "I") ∈ lw_all := lw_g (lw_at lw_m1 114 rfl) rfl
theorem q234 : (Jvm.Cond.soleField "SaltedGate$Refused" "fault") ∈ lw_all := lw_g (lw_at lw_m1 115 rfl) rfl
theorem q235 : (Jvm.Cond.lays "SaltedGate$Refused" "SaltedGate$Refused" "place" "I") ∈ lw_all := lw_g (lw_at lw_m1 116 rfl) rfl
theorem q236 : (Jvm.Cond.soleField "SaltedGate$Refused" "place") ∈ lw_all := lw_g (lw_at lw_m1 117 rfl) rfl
theorem q241 : (Jvm.Cond.lays "SaltedGate$Refused" "java/lang/Throwable" "depth" "I") ∈ lw_all := lw_g (lw_at lw_m1 122 rfl) rfl
theorem q244 : (Jvm.Cond.superclass "SaltedGate$Refused" "java/lang/RuntimeException") ∈ lw_all := lw_g (lw_at lw_m1 125 rfl) rfl
theorem q721 : (Jvm.Cond.instanceMethod ({ cls := "SaltedGate$Refused", name := "at", desc := "(II)LSaltedGate$Refused;" } : Jvm.MethodName)) ∈ lw_all := lw_g (lw_at lw_m3 122 rfl) rfl
theorem q722 : (Jvm.Cond.selects "SaltedGate$Refused" ({ cls := "SaltedGate$Refused", name := "at", desc := "(II)LSaltedGate$Refused;" } : Jvm.MethodName) ({ cls := "SaltedGate$Refused", name := "at", desc := "(II)LSaltedGate$Refused;" } : Jvm.MethodName)) ∈ lw_all := lw_g (lw_at lw_m3 123 rfl) rfl
theorem q723 : (Jvm.Cond.code ({ cls := "SaltedGate$Refused", name := "at", desc := "(II)LSaltedGate$Refused;" } : Jvm.MethodName) prog_23_method_2_code (3 : Nat) (Option.some (Jvm.ClassFile.FieldType.object "SaltedGate$Refused"))) ∈ lw_all := lw_g (lw_at lw_m3 124 rfl) rfl
theorem q2562 : (Jvm.Cond.castable "SaltedGate$Refused" "java/lang/Object") ∈ lw_tbl := lw_at lw_m11 43 rfl
theorem in_X3 : ∀ w ∈ wsX30, w ∈ lw_all := lw_in wsX30 [183, 185, 187, 189, 191, 241, 233, 235] (by decide +kernel) (by decide +kernel)

/-! SaltedGate$Load -/
set_option maxRecDepth 100000
def RX4 : String := "SaltedGate$Load"
def TX4 : u_T := fun k => match k with
  | 0 => ("SaltedGate$Load", "state", "[I", true)
  | 1 => ("SaltedGate$Load", "eaten", "[I", true)
  | 2 => ("SaltedGate$Load", "paid", "[I", true)
  | 3 => ("SaltedGate$Load", "barrier", "LSaltedGate$Barrier;", false)
  | 4 => ("SaltedGate$Load", "hidden", "I", false)
  | _ => ("SaltedGate$Load", "day", "I", false)
def tyX4 : Nat → FieldType := fun k => match k with
  | 0 => .array .int
  | 1 => .array .int
  | 2 => .array .int
  | 3 => .object "SaltedGate$Barrier"
  | 4 => .int
  | _ => .int
abbrev wsX40 : List Cond := u_ws RX4 TX4 6
theorem nmX4 : ∀ a, a < 6 → ∀ b, b < 6 → a ≠ b → (TX4 a).2.1 ≠ (TX4 b).2.1 := by decide +kernel
theorem tyX4_ok : ∀ k, k < 6 → parseFieldDescriptor (TX4 k).2.2.1 = some (tyX4 k) := by decide +kernel
abbrev cX4_init : ByteArray := prog_14_method_1_code
def yX4_init : MethodName := ⟨RX4, "<init>", "()V"⟩
def dkwX4_init_1 : List UInt8 := [181, 0, 18, 177]
abbrev dktX4_init_1 : List UInt8 := dkwX4_init_1 ++ []
def dkwX4_init_0 : List UInt8 := [42, 183, 0, 3, 42, 16, 8, 188, 10, 181, 0, 9, 42, 7, 188, 10, 181, 0, 15, 42, 7, 188, 10]
abbrev dktX4_init_0 : List UInt8 := dkwX4_init_0 ++ dktX4_init_1
theorem dksX4_init_0 : cX4_init.data.toList.drop 0 = dktX4_init_0 := by decide +kernel
theorem dksX4_init_1 : cX4_init.data.toList.drop 23 = dktX4_init_1 := dk_seg dksX4_init_0 23 rfl rfl
theorem dX4_init_0 : decode cX4_init 0 = .ok (.aload_n 0, 1) := dk_42 (dk_at dksX4_init_0 0 rfl rfl)
theorem dX4_init_1 : decode cX4_init 1 = .ok (.invokespecial 3, 3) := dk_183 0 3 (dk_at dksX4_init_0 1 rfl rfl)
theorem dX4_init_4 : decode cX4_init 4 = .ok (.aload_n 0, 1) := dk_42 (dk_at dksX4_init_0 4 rfl rfl)
theorem dX4_init_5 : decode cX4_init 5 = .ok (.bipush 8, 2) := dk_16 8 (dk_at dksX4_init_0 5 rfl rfl)
theorem dX4_init_7 : decode cX4_init 7 = .ok (.newarray .int, 2) := dk_188_10 (dk_at dksX4_init_0 7 rfl rfl)
theorem dX4_init_9 : decode cX4_init 9 = .ok (.putfield 9, 3) := dk_181 0 9 (dk_at dksX4_init_0 9 rfl rfl)
theorem dX4_init_12 : decode cX4_init 12 = .ok (.aload_n 0, 1) := dk_42 (dk_at dksX4_init_0 12 rfl rfl)
theorem dX4_init_13 : decode cX4_init 13 = .ok (.iconst 4, 1) := dk_7 (dk_at dksX4_init_0 13 rfl rfl)
theorem dX4_init_14 : decode cX4_init 14 = .ok (.newarray .int, 2) := dk_188_10 (dk_at dksX4_init_0 14 rfl rfl)
theorem dX4_init_16 : decode cX4_init 16 = .ok (.putfield 15, 3) := dk_181 0 15 (dk_at dksX4_init_0 16 rfl rfl)
theorem dX4_init_19 : decode cX4_init 19 = .ok (.aload_n 0, 1) := dk_42 (dk_at dksX4_init_0 19 rfl rfl)
theorem dX4_init_20 : decode cX4_init 20 = .ok (.iconst 4, 1) := dk_7 (dk_at dksX4_init_0 20 rfl rfl)
theorem dX4_init_21 : decode cX4_init 21 = .ok (.newarray .int, 2) := dk_188_10 (dk_at dksX4_init_0 21 rfl rfl)
theorem dX4_init_23 : decode cX4_init 23 = .ok (.putfield 18, 3) := dk_181 0 18 (dk_at dksX4_init_1 0 rfl rfl)
theorem dX4_init_26 : decode cX4_init 26 = .ok (.return_, 1) := dk_177 (dk_at dksX4_init_1 3 rfl rfl)
abbrev cX4_begin : ByteArray := prog_14_method_2_code
def yX4_begin : MethodName := ⟨RX4, "begin", "(LSaltedGate$Barrier;)V"⟩
def dkwX4_begin_3 : List UInt8 := [162, 0, 23, 42, 180, 0, 15, 28, 3, 79, 42, 180, 0, 18, 28, 3, 79, 132, 2, 1, 167, 255, 234, 177]
abbrev dktX4_begin_3 : List UInt8 := dkwX4_begin_3 ++ []
def dkwX4_begin_2 : List UInt8 := [153, 0, 9, 4, 28, 120, 167, 0, 4, 3, 128, 181, 0, 29, 132, 2, 1, 167, 255, 210, 3, 61, 28, 7]
abbrev dktX4_begin_2 : List UInt8 := dkwX4_begin_2 ++ dktX4_begin_3
def dkwX4_begin_1 : List UInt8 := [162, 0, 44, 42, 180, 0, 9, 28, 3, 79, 42, 89, 180, 0, 29, 43, 180, 0, 37, 28, 50, 180, 0, 41]
abbrev dktX4_begin_1 : List UInt8 := dkwX4_begin_1 ++ dktX4_begin_2
def dkwX4_begin_0 : List UInt8 := [42, 43, 181, 0, 21, 42, 3, 181, 0, 25, 42, 3, 181, 0, 29, 3, 61, 28, 43, 180, 0, 32]
abbrev dktX4_begin_0 : List UInt8 := dkwX4_begin_0 ++ dktX4_begin_1
theorem dksX4_begin_0 : cX4_begin.data.toList.drop 0 = dktX4_begin_0 := by decide +kernel
theorem dksX4_begin_1 : cX4_begin.data.toList.drop 22 = dktX4_begin_1 := dk_seg dksX4_begin_0 22 rfl rfl
theorem dksX4_begin_2 : cX4_begin.data.toList.drop 46 = dktX4_begin_2 := dk_seg dksX4_begin_1 24 rfl rfl
theorem dksX4_begin_3 : cX4_begin.data.toList.drop 70 = dktX4_begin_3 := dk_seg dksX4_begin_2 24 rfl rfl
theorem dX4_begin_0 : decode cX4_begin 0 = .ok (.aload_n 0, 1) := dk_42 (dk_at dksX4_begin_0 0 rfl rfl)
theorem dX4_begin_1 : decode cX4_begin 1 = .ok (.aload_n 1, 1) := dk_43 (dk_at dksX4_begin_0 1 rfl rfl)
theorem dX4_begin_2 : decode cX4_begin 2 = .ok (.putfield 21, 3) := dk_181 0 21 (dk_at dksX4_begin_0 2 rfl rfl)
theorem dX4_begin_5 : decode cX4_begin 5 = .ok (.aload_n 0, 1) := dk_42 (dk_at dksX4_begin_0 5 rfl rfl)
theorem dX4_begin_6 : decode cX4_begin 6 = .ok (.iconst 0, 1) := dk_3 (dk_at dksX4_begin_0 6 rfl rfl)
theorem dX4_begin_7 : decode cX4_begin 7 = .ok (.putfield 25, 3) := dk_181 0 25 (dk_at dksX4_begin_0 7 rfl rfl)
theorem dX4_begin_10 : decode cX4_begin 10 = .ok (.aload_n 0, 1) := dk_42 (dk_at dksX4_begin_0 10 rfl rfl)
theorem dX4_begin_11 : decode cX4_begin 11 = .ok (.iconst 0, 1) := dk_3 (dk_at dksX4_begin_0 11 rfl rfl)
theorem dX4_begin_12 : decode cX4_begin 12 = .ok (.putfield 29, 3) := dk_181 0 29 (dk_at dksX4_begin_0 12 rfl rfl)
theorem dX4_begin_15 : decode cX4_begin 15 = .ok (.iconst 0, 1) := dk_3 (dk_at dksX4_begin_0 15 rfl rfl)
theorem dX4_begin_16 : decode cX4_begin 16 = .ok (.istore_n 2, 1) := dk_61 (dk_at dksX4_begin_0 16 rfl rfl)
theorem dX4_begin_17 : decode cX4_begin 17 = .ok (.iload_n 2, 1) := dk_28 (dk_at dksX4_begin_0 17 rfl rfl)
theorem dX4_begin_18 : decode cX4_begin 18 = .ok (.aload_n 1, 1) := dk_43 (dk_at dksX4_begin_0 18 rfl rfl)
theorem dX4_begin_19 : decode cX4_begin 19 = .ok (.getfield 32, 3) := dk_180 0 32 (dk_at dksX4_begin_0 19 rfl rfl)
theorem dX4_begin_22 : decode cX4_begin 22 = .ok (.if_icmp .ge 44, 3) := dk_162 0 44 (dk_at dksX4_begin_1 0 rfl rfl)
theorem dX4_begin_25 : decode cX4_begin 25 = .ok (.aload_n 0, 1) := dk_42 (dk_at dksX4_begin_1 3 rfl rfl)
theorem dX4_begin_26 : decode cX4_begin 26 = .ok (.getfield 9, 3) := dk_180 0 9 (dk_at dksX4_begin_1 4 rfl rfl)
theorem dX4_begin_29 : decode cX4_begin 29 = .ok (.iload_n 2, 1) := dk_28 (dk_at dksX4_begin_1 7 rfl rfl)
theorem dX4_begin_30 : decode cX4_begin 30 = .ok (.iconst 0, 1) := dk_3 (dk_at dksX4_begin_1 8 rfl rfl)
theorem dX4_begin_31 : decode cX4_begin 31 = .ok (.iastore, 1) := dk_79 (dk_at dksX4_begin_1 9 rfl rfl)
theorem dX4_begin_32 : decode cX4_begin 32 = .ok (.aload_n 0, 1) := dk_42 (dk_at dksX4_begin_1 10 rfl rfl)
theorem dX4_begin_33 : decode cX4_begin 33 = .ok (.dup, 1) := dk_89 (dk_at dksX4_begin_1 11 rfl rfl)
theorem dX4_begin_34 : decode cX4_begin 34 = .ok (.getfield 29, 3) := dk_180 0 29 (dk_at dksX4_begin_1 12 rfl rfl)
theorem dX4_begin_37 : decode cX4_begin 37 = .ok (.aload_n 1, 1) := dk_43 (dk_at dksX4_begin_1 15 rfl rfl)
theorem dX4_begin_38 : decode cX4_begin 38 = .ok (.getfield 37, 3) := dk_180 0 37 (dk_at dksX4_begin_1 16 rfl rfl)
theorem dX4_begin_41 : decode cX4_begin 41 = .ok (.iload_n 2, 1) := dk_28 (dk_at dksX4_begin_1 19 rfl rfl)
theorem dX4_begin_42 : decode cX4_begin 42 = .ok (.aaload, 1) := dk_50 (dk_at dksX4_begin_1 20 rfl rfl)
theorem dX4_begin_43 : decode cX4_begin 43 = .ok (.getfield 41, 3) := dk_180 0 41 (dk_at dksX4_begin_1 21 rfl rfl)
theorem dX4_begin_46 : decode cX4_begin 46 = .ok (.ifCond .eq 9, 3) := dk_153 0 9 (dk_at dksX4_begin_2 0 rfl rfl)
theorem dX4_begin_49 : decode cX4_begin 49 = .ok (.iconst 1, 1) := dk_4 (dk_at dksX4_begin_2 3 rfl rfl)
theorem dX4_begin_50 : decode cX4_begin 50 = .ok (.iload_n 2, 1) := dk_28 (dk_at dksX4_begin_2 4 rfl rfl)
theorem dX4_begin_51 : decode cX4_begin 51 = .ok (.ishl, 1) := dk_120 (dk_at dksX4_begin_2 5 rfl rfl)
theorem dX4_begin_52 : decode cX4_begin 52 = .ok (.goto 4, 3) := dk_167 0 4 (dk_at dksX4_begin_2 6 rfl rfl)
theorem dX4_begin_55 : decode cX4_begin 55 = .ok (.iconst 0, 1) := dk_3 (dk_at dksX4_begin_2 9 rfl rfl)
theorem dX4_begin_56 : decode cX4_begin 56 = .ok (.ior, 1) := dk_128 (dk_at dksX4_begin_2 10 rfl rfl)
theorem dX4_begin_57 : decode cX4_begin 57 = .ok (.putfield 29, 3) := dk_181 0 29 (dk_at dksX4_begin_2 11 rfl rfl)
theorem dX4_begin_60 : decode cX4_begin 60 = .ok (.iinc 2 1, 3) := dk_132 2 1 (dk_at dksX4_begin_2 14 rfl rfl)
theorem dX4_begin_63 : decode cX4_begin 63 = .ok (.goto (-46), 3) := dk_167 255 210 (dk_at dksX4_begin_2 17 rfl rfl)
theorem dX4_begin_66 : decode cX4_begin 66 = .ok (.iconst 0, 1) := dk_3 (dk_at dksX4_begin_2 20 rfl rfl)
theorem dX4_begin_67 : decode cX4_begin 67 = .ok (.istore_n 2, 1) := dk_61 (dk_at dksX4_begin_2 21 rfl rfl)
theorem dX4_begin_68 : decode cX4_begin 68 = .ok (.iload_n 2, 1) := dk_28 (dk_at dksX4_begin_2 22 rfl rfl)
theorem dX4_begin_69 : decode cX4_begin 69 = .ok (.iconst 4, 1) := dk_7 (dk_at dksX4_begin_2 23 rfl rfl)
theorem dX4_begin_70 : decode cX4_begin 70 = .ok (.if_icmp .ge 23, 3) := dk_162 0 23 (dk_at dksX4_begin_3 0 rfl rfl)
theorem dX4_begin_73 : decode cX4_begin 73 = .ok (.aload_n 0, 1) := dk_42 (dk_at dksX4_begin_3 3 rfl rfl)
theorem dX4_begin_74 : decode cX4_begin 74 = .ok (.getfield 15, 3) := dk_180 0 15 (dk_at dksX4_begin_3 4 rfl rfl)
theorem dX4_begin_77 : decode cX4_begin 77 = .ok (.iload_n 2, 1) := dk_28 (dk_at dksX4_begin_3 7 rfl rfl)
theorem dX4_begin_78 : decode cX4_begin 78 = .ok (.iconst 0, 1) := dk_3 (dk_at dksX4_begin_3 8 rfl rfl)
theorem dX4_begin_79 : decode cX4_begin 79 = .ok (.iastore, 1) := dk_79 (dk_at dksX4_begin_3 9 rfl rfl)
theorem dX4_begin_80 : decode cX4_begin 80 = .ok (.aload_n 0, 1) := dk_42 (dk_at dksX4_begin_3 10 rfl rfl)
theorem dX4_begin_81 : decode cX4_begin 81 = .ok (.getfield 18, 3) := dk_180 0 18 (dk_at dksX4_begin_3 11 rfl rfl)
theorem dX4_begin_84 : decode cX4_begin 84 = .ok (.iload_n 2, 1) := dk_28 (dk_at dksX4_begin_3 14 rfl rfl)
theorem dX4_begin_85 : decode cX4_begin 85 = .ok (.iconst 0, 1) := dk_3 (dk_at dksX4_begin_3 15 rfl rfl)
theorem dX4_begin_86 : decode cX4_begin 86 = .ok (.iastore, 1) := dk_79 (dk_at dksX4_begin_3 16 rfl rfl)
theorem dX4_begin_87 : decode cX4_begin 87 = .ok (.iinc 2 1, 3) := dk_132 2 1 (dk_at dksX4_begin_3 17 rfl rfl)
theorem dX4_begin_90 : decode cX4_begin 90 = .ok (.goto (-22), 3) := dk_167 255 234 (dk_at dksX4_begin_3 20 rfl rfl)
theorem dX4_begin_93 : decode cX4_begin 93 = .ok (.return_, 1) := dk_177 (dk_at dksX4_begin_3 23 rfl rfl)
abbrev cX4_has : ByteArray := prog_14_method_4_code
def yX4_has : MethodName := ⟨RX4, "has", "(I)I"⟩
def dkwX4_has_2 : List UInt8 := [128, 61, 132, 3, 1, 167, 255, 207, 28, 172]
abbrev dktX4_has_2 : List UInt8 := dkwX4_has_2 ++ []
def dkwX4_has_1 : List UInt8 := [50, 180, 0, 52, 27, 160, 0, 18, 42, 180, 0, 9, 29, 46, 154, 0, 9, 4, 29, 120, 167, 0, 4, 3]
abbrev dktX4_has_1 : List UInt8 := dkwX4_has_1 ++ dktX4_has_2
def dkwX4_has_0 : List UInt8 := [3, 61, 3, 62, 29, 42, 180, 0, 21, 180, 0, 32, 162, 0, 44, 28, 42, 180, 0, 21, 180, 0, 37, 29]
abbrev dktX4_has_0 : List UInt8 := dkwX4_has_0 ++ dktX4_has_1
theorem dksX4_has_0 : cX4_has.data.toList.drop 0 = dktX4_has_0 := by decide +kernel
theorem dksX4_has_1 : cX4_has.data.toList.drop 24 = dktX4_has_1 := dk_seg dksX4_has_0 24 rfl rfl
theorem dksX4_has_2 : cX4_has.data.toList.drop 48 = dktX4_has_2 := dk_seg dksX4_has_1 24 rfl rfl
theorem dX4_has_0 : decode cX4_has 0 = .ok (.iconst 0, 1) := dk_3 (dk_at dksX4_has_0 0 rfl rfl)
theorem dX4_has_1 : decode cX4_has 1 = .ok (.istore_n 2, 1) := dk_61 (dk_at dksX4_has_0 1 rfl rfl)
theorem dX4_has_2 : decode cX4_has 2 = .ok (.iconst 0, 1) := dk_3 (dk_at dksX4_has_0 2 rfl rfl)
theorem dX4_has_3 : decode cX4_has 3 = .ok (.istore_n 3, 1) := dk_62 (dk_at dksX4_has_0 3 rfl rfl)
theorem dX4_has_4 : decode cX4_has 4 = .ok (.iload_n 3, 1) := dk_29 (dk_at dksX4_has_0 4 rfl rfl)
theorem dX4_has_5 : decode cX4_has 5 = .ok (.aload_n 0, 1) := dk_42 (dk_at dksX4_has_0 5 rfl rfl)
theorem dX4_has_6 : decode cX4_has 6 = .ok (.getfield 21, 3) := dk_180 0 21 (dk_at dksX4_has_0 6 rfl rfl)
theorem dX4_has_9 : decode cX4_has 9 = .ok (.getfield 32, 3) := dk_180 0 32 (dk_at dksX4_has_0 9 rfl rfl)
theorem dX4_has_12 : decode cX4_has 12 = .ok (.if_icmp .ge 44, 3) := dk_162 0 44 (dk_at dksX4_has_0 12 rfl rfl)
theorem dX4_has_15 : decode cX4_has 15 = .ok (.iload_n 2, 1) := dk_28 (dk_at dksX4_has_0 15 rfl rfl)
theorem dX4_has_16 : decode cX4_has 16 = .ok (.aload_n 0, 1) := dk_42 (dk_at dksX4_has_0 16 rfl rfl)
theorem dX4_has_17 : decode cX4_has 17 = .ok (.getfield 21, 3) := dk_180 0 21 (dk_at dksX4_has_0 17 rfl rfl)
theorem dX4_has_20 : decode cX4_has 20 = .ok (.getfield 37, 3) := dk_180 0 37 (dk_at dksX4_has_0 20 rfl rfl)
theorem dX4_has_23 : decode cX4_has 23 = .ok (.iload_n 3, 1) := dk_29 (dk_at dksX4_has_0 23 rfl rfl)
theorem dX4_has_24 : decode cX4_has 24 = .ok (.aaload, 1) := dk_50 (dk_at dksX4_has_1 0 rfl rfl)
theorem dX4_has_25 : decode cX4_has 25 = .ok (.getfield 52, 3) := dk_180 0 52 (dk_at dksX4_has_1 1 rfl rfl)
theorem dX4_has_28 : decode cX4_has 28 = .ok (.iload_n 1, 1) := dk_27 (dk_at dksX4_has_1 4 rfl rfl)
theorem dX4_has_29 : decode cX4_has 29 = .ok (.if_icmp .ne 18, 3) := dk_160 0 18 (dk_at dksX4_has_1 5 rfl rfl)
theorem dX4_has_32 : decode cX4_has 32 = .ok (.aload_n 0, 1) := dk_42 (dk_at dksX4_has_1 8 rfl rfl)
theorem dX4_has_33 : decode cX4_has 33 = .ok (.getfield 9, 3) := dk_180 0 9 (dk_at dksX4_has_1 9 rfl rfl)
theorem dX4_has_36 : decode cX4_has 36 = .ok (.iload_n 3, 1) := dk_29 (dk_at dksX4_has_1 12 rfl rfl)
theorem dX4_has_37 : decode cX4_has 37 = .ok (.iaload, 1) := dk_46 (dk_at dksX4_has_1 13 rfl rfl)
theorem dX4_has_38 : decode cX4_has 38 = .ok (.ifCond .ne 9, 3) := dk_154 0 9 (dk_at dksX4_has_1 14 rfl rfl)
theorem dX4_has_41 : decode cX4_has 41 = .ok (.iconst 1, 1) := dk_4 (dk_at dksX4_has_1 17 rfl rfl)
theorem dX4_has_42 : decode cX4_has 42 = .ok (.iload_n 3, 1) := dk_29 (dk_at dksX4_has_1 18 rfl rfl)
theorem dX4_has_43 : decode cX4_has 43 = .ok (.ishl, 1) := dk_120 (dk_at dksX4_has_1 19 rfl rfl)
theorem dX4_has_44 : decode cX4_has 44 = .ok (.goto 4, 3) := dk_167 0 4 (dk_at dksX4_has_1 20 rfl rfl)
theorem dX4_has_47 : decode cX4_has 47 = .ok (.iconst 0, 1) := dk_3 (dk_at dksX4_has_1 23 rfl rfl)
theorem dX4_has_48 : decode cX4_has 48 = .ok (.ior, 1) := dk_128 (dk_at dksX4_has_2 0 rfl rfl)
theorem dX4_has_49 : decode cX4_has 49 = .ok (.istore_n 2, 1) := dk_61 (dk_at dksX4_has_2 1 rfl rfl)
theorem dX4_has_50 : decode cX4_has 50 = .ok (.iinc 3 1, 3) := dk_132 3 1 (dk_at dksX4_has_2 2 rfl rfl)
theorem dX4_has_53 : decode cX4_has 53 = .ok (.goto (-49), 3) := dk_167 255 207 (dk_at dksX4_has_2 5 rfl rfl)
theorem dX4_has_56 : decode cX4_has 56 = .ok (.iload_n 2, 1) := dk_28 (dk_at dksX4_has_2 8 rfl rfl)
theorem dX4_has_57 : decode cX4_has 57 = .ok (.ireturn, 1) := dk_172 (dk_at dksX4_has_2 9 rfl rfl)
abbrev cX4_smell : ByteArray := prog_14_method_7_code
def yX4_smell : MethodName := ⟨RX4, "smell", "(II)I"⟩
def dkwX4_smell_4 : List UInt8 := [132, 5, 1, 167, 255, 181, 3, 21, 4, 184, 0, 76, 172]
abbrev dktX4_smell_4 : List UInt8 := dkwX4_smell_4 ++ []
def dkwX4_smell_3 : List UInt8 := [154, 0, 23, 25, 6, 182, 0, 68, 153, 0, 15, 25, 6, 28, 182, 0, 72, 154, 0, 6, 132, 4, 254]
abbrev dktX4_smell_3 : List UInt8 := dkwX4_smell_3 ++ dktX4_smell_4
def dkwX4_smell_2 : List UInt8 := [159, 0, 45, 25, 6, 180, 0, 52, 45, 180, 0, 52, 160, 0, 33, 42, 180, 0, 9, 21, 5, 46]
abbrev dktX4_smell_2 : List UInt8 := dkwX4_smell_2 ++ dktX4_smell_3
def dkwX4_smell_1 : List UInt8 := [180, 0, 21, 180, 0, 32, 162, 0, 69, 42, 180, 0, 21, 180, 0, 37, 21, 5, 50, 58, 6, 21, 5, 27]
abbrev dktX4_smell_1 : List UInt8 := dkwX4_smell_1 ++ dktX4_smell_2
def dkwX4_smell_0 : List UInt8 := [42, 180, 0, 21, 180, 0, 37, 27, 50, 78, 45, 28, 182, 0, 64, 54, 4, 3, 54, 5, 21, 5, 42]
abbrev dktX4_smell_0 : List UInt8 := dkwX4_smell_0 ++ dktX4_smell_1
theorem dksX4_smell_0 : cX4_smell.data.toList.drop 0 = dktX4_smell_0 := by decide +kernel
theorem dksX4_smell_1 : cX4_smell.data.toList.drop 23 = dktX4_smell_1 := dk_seg dksX4_smell_0 23 rfl rfl
theorem dksX4_smell_2 : cX4_smell.data.toList.drop 47 = dktX4_smell_2 := dk_seg dksX4_smell_1 24 rfl rfl
theorem dksX4_smell_3 : cX4_smell.data.toList.drop 69 = dktX4_smell_3 := dk_seg dksX4_smell_2 22 rfl rfl
theorem dksX4_smell_4 : cX4_smell.data.toList.drop 92 = dktX4_smell_4 := dk_seg dksX4_smell_3 23 rfl rfl
theorem dX4_smell_0 : decode cX4_smell 0 = .ok (.aload_n 0, 1) := dk_42 (dk_at dksX4_smell_0 0 rfl rfl)
theorem dX4_smell_1 : decode cX4_smell 1 = .ok (.getfield 21, 3) := dk_180 0 21 (dk_at dksX4_smell_0 1 rfl rfl)
theorem dX4_smell_4 : decode cX4_smell 4 = .ok (.getfield 37, 3) := dk_180 0 37 (dk_at dksX4_smell_0 4 rfl rfl)
theorem dX4_smell_7 : decode cX4_smell 7 = .ok (.iload_n 1, 1) := dk_27 (dk_at dksX4_smell_0 7 rfl rfl)
theorem dX4_smell_8 : decode cX4_smell 8 = .ok (.aaload, 1) := dk_50 (dk_at dksX4_smell_0 8 rfl rfl)
theorem dX4_smell_9 : decode cX4_smell 9 = .ok (.astore_n 3, 1) := dk_78 (dk_at dksX4_smell_0 9 rfl rfl)
theorem dX4_smell_10 : decode cX4_smell 10 = .ok (.aload_n 3, 1) := dk_45 (dk_at dksX4_smell_0 10 rfl rfl)
theorem dX4_smell_11 : decode cX4_smell 11 = .ok (.iload_n 2, 1) := dk_28 (dk_at dksX4_smell_0 11 rfl rfl)
theorem dX4_smell_12 : decode cX4_smell 12 = .ok (.invokevirtual 64, 3) := dk_182 0 64 (dk_at dksX4_smell_0 12 rfl rfl)
theorem dX4_smell_15 : decode cX4_smell 15 = .ok (.istore 4, 2) := dk_54 4 (dk_at dksX4_smell_0 15 rfl rfl)
theorem dX4_smell_17 : decode cX4_smell 17 = .ok (.iconst 0, 1) := dk_3 (dk_at dksX4_smell_0 17 rfl rfl)
theorem dX4_smell_18 : decode cX4_smell 18 = .ok (.istore 5, 2) := dk_54 5 (dk_at dksX4_smell_0 18 rfl rfl)
theorem dX4_smell_20 : decode cX4_smell 20 = .ok (.iload 5, 2) := dk_21 5 (dk_at dksX4_smell_0 20 rfl rfl)
theorem dX4_smell_22 : decode cX4_smell 22 = .ok (.aload_n 0, 1) := dk_42 (dk_at dksX4_smell_0 22 rfl rfl)
theorem dX4_smell_23 : decode cX4_smell 23 = .ok (.getfield 21, 3) := dk_180 0 21 (dk_at dksX4_smell_1 0 rfl rfl)
theorem dX4_smell_26 : decode cX4_smell 26 = .ok (.getfield 32, 3) := dk_180 0 32 (dk_at dksX4_smell_1 3 rfl rfl)
theorem dX4_smell_29 : decode cX4_smell 29 = .ok (.if_icmp .ge 69, 3) := dk_162 0 69 (dk_at dksX4_smell_1 6 rfl rfl)
theorem dX4_smell_32 : decode cX4_smell 32 = .ok (.aload_n 0, 1) := dk_42 (dk_at dksX4_smell_1 9 rfl rfl)
theorem dX4_smell_33 : decode cX4_smell 33 = .ok (.getfield 21, 3) := dk_180 0 21 (dk_at dksX4_smell_1 10 rfl rfl)
theorem dX4_smell_36 : decode cX4_smell 36 = .ok (.getfield 37, 3) := dk_180 0 37 (dk_at dksX4_smell_1 13 rfl rfl)
theorem dX4_smell_39 : decode cX4_smell 39 = .ok (.iload 5, 2) := dk_21 5 (dk_at dksX4_smell_1 16 rfl rfl)
theorem dX4_smell_41 : decode cX4_smell 41 = .ok (.aaload, 1) := dk_50 (dk_at dksX4_smell_1 18 rfl rfl)
theorem dX4_smell_42 : decode cX4_smell 42 = .ok (.astore 6, 2) := dk_58 6 (dk_at dksX4_smell_1 19 rfl rfl)
theorem dX4_smell_44 : decode cX4_smell 44 = .ok (.iload 5, 2) := dk_21 5 (dk_at dksX4_smell_1 21 rfl rfl)
theorem dX4_smell_46 : decode cX4_smell 46 = .ok (.iload_n 1, 1) := dk_27 (dk_at dksX4_smell_1 23 rfl rfl)
theorem dX4_smell_47 : decode cX4_smell 47 = .ok (.if_icmp .eq 45, 3) := dk_159 0 45 (dk_at dksX4_smell_2 0 rfl rfl)
theorem dX4_smell_50 : decode cX4_smell 50 = .ok (.aload 6, 2) := dk_25 6 (dk_at dksX4_smell_2 3 rfl rfl)
theorem dX4_smell_52 : decode cX4_smell 52 = .ok (.getfield 52, 3) := dk_180 0 52 (dk_at dksX4_smell_2 5 rfl rfl)
theorem dX4_smell_55 : decode cX4_smell 55 = .ok (.aload_n 3, 1) := dk_45 (dk_at dksX4_smell_2 8 rfl rfl)
theorem dX4_smell_56 : decode cX4_smell 56 = .ok (.getfield 52, 3) := dk_180 0 52 (dk_at dksX4_smell_2 9 rfl rfl)
theorem dX4_smell_59 : decode cX4_smell 59 = .ok (.if_icmp .ne 33, 3) := dk_160 0 33 (dk_at dksX4_smell_2 12 rfl rfl)
theorem dX4_smell_62 : decode cX4_smell 62 = .ok (.aload_n 0, 1) := dk_42 (dk_at dksX4_smell_2 15 rfl rfl)
theorem dX4_smell_63 : decode cX4_smell 63 = .ok (.getfield 9, 3) := dk_180 0 9 (dk_at dksX4_smell_2 16 rfl rfl)
theorem dX4_smell_66 : decode cX4_smell 66 = .ok (.iload 5, 2) := dk_21 5 (dk_at dksX4_smell_2 19 rfl rfl)
theorem dX4_smell_68 : decode cX4_smell 68 = .ok (.iaload, 1) := dk_46 (dk_at dksX4_smell_2 21 rfl rfl)
theorem dX4_smell_69 : decode cX4_smell 69 = .ok (.ifCond .ne 23, 3) := dk_154 0 23 (dk_at dksX4_smell_3 0 rfl rfl)
theorem dX4_smell_72 : decode cX4_smell 72 = .ok (.aload 6, 2) := dk_25 6 (dk_at dksX4_smell_3 3 rfl rfl)
theorem dX4_smell_74 : decode cX4_smell 74 = .ok (.invokevirtual 68, 3) := dk_182 0 68 (dk_at dksX4_smell_3 5 rfl rfl)
theorem dX4_smell_77 : decode cX4_smell 77 = .ok (.ifCond .eq 15, 3) := dk_153 0 15 (dk_at dksX4_smell_3 8 rfl rfl)
theorem dX4_smell_80 : decode cX4_smell 80 = .ok (.aload 6, 2) := dk_25 6 (dk_at dksX4_smell_3 11 rfl rfl)
theorem dX4_smell_82 : decode cX4_smell 82 = .ok (.iload_n 2, 1) := dk_28 (dk_at dksX4_smell_3 13 rfl rfl)
theorem dX4_smell_83 : decode cX4_smell 83 = .ok (.invokevirtual 72, 3) := dk_182 0 72 (dk_at dksX4_smell_3 14 rfl rfl)
theorem dX4_smell_86 : decode cX4_smell 86 = .ok (.ifCond .ne 6, 3) := dk_154 0 6 (dk_at dksX4_smell_3 17 rfl rfl)
theorem dX4_smell_89 : decode cX4_smell 89 = .ok (.iinc 4 (-2), 3) := dk_132 4 254 (dk_at dksX4_smell_3 20 rfl rfl)
theorem dX4_smell_92 : decode cX4_smell 92 = .ok (.iinc 5 1, 3) := dk_132 5 1 (dk_at dksX4_smell_4 0 rfl rfl)
theorem dX4_smell_95 : decode cX4_smell 95 = .ok (.goto (-75), 3) := dk_167 255 181 (dk_at dksX4_smell_4 3 rfl rfl)
theorem dX4_smell_98 : decode cX4_smell 98 = .ok (.iconst 0, 1) := dk_3 (dk_at dksX4_smell_4 6 rfl rfl)
theorem dX4_smell_99 : decode cX4_smell 99 = .ok (.iload 4, 2) := dk_21 4 (dk_at dksX4_smell_4 7 rfl rfl)
theorem dX4_smell_101 : decode cX4_smell 101 = .ok (.invokestatic 76, 3) := dk_184 0 76 (dk_at dksX4_smell_4 9 rfl rfl)
theorem dX4_smell_104 : decode cX4_smell 104 = .ok (.ireturn, 1) := dk_172 (dk_at dksX4_smell_4 12 rfl rfl)
abbrev cX4_found : ByteArray := prog_14_method_8_code
def yX4_found : MethodName := ⟨RX4, "found", "(III)I"⟩
def dkwX4_found_3 : List UInt8 := [167, 0, 4, 3, 128, 54, 4, 132, 6, 1, 167, 255, 191, 21, 4, 172]
abbrev dktX4_found_3 : List UInt8 := dkwX4_found_3 ++ []
def dkwX4_found_2 : List UInt8 := [182, 0, 88, 42, 180, 0, 21, 180, 0, 91, 28, 50, 180, 0, 95, 161, 0, 10, 4, 21, 6, 120]
abbrev dktX4_found_2 : List UInt8 := dkwX4_found_2 ++ dktX4_found_3
def dkwX4_found_1 : List UInt8 := [162, 0, 59, 21, 4, 21, 5, 42, 180, 0, 29, 126, 21, 6, 184, 0, 85, 153, 0, 32, 42, 21, 6, 29]
abbrev dktX4_found_1 : List UInt8 := dkwX4_found_1 ++ dktX4_found_2
def dkwX4_found_0 : List UInt8 := [3, 54, 4, 42, 27, 182, 0, 82, 54, 5, 3, 54, 6, 21, 6, 42, 180, 0, 21, 180, 0, 32]
abbrev dktX4_found_0 : List UInt8 := dkwX4_found_0 ++ dktX4_found_1
theorem dksX4_found_0 : cX4_found.data.toList.drop 0 = dktX4_found_0 := by decide +kernel
theorem dksX4_found_1 : cX4_found.data.toList.drop 22 = dktX4_found_1 := dk_seg dksX4_found_0 22 rfl rfl
theorem dksX4_found_2 : cX4_found.data.toList.drop 46 = dktX4_found_2 := dk_seg dksX4_found_1 24 rfl rfl
theorem dksX4_found_3 : cX4_found.data.toList.drop 68 = dktX4_found_3 := dk_seg dksX4_found_2 22 rfl rfl
theorem dX4_found_0 : decode cX4_found 0 = .ok (.iconst 0, 1) := dk_3 (dk_at dksX4_found_0 0 rfl rfl)
theorem dX4_found_1 : decode cX4_found 1 = .ok (.istore 4, 2) := dk_54 4 (dk_at dksX4_found_0 1 rfl rfl)
theorem dX4_found_3 : decode cX4_found 3 = .ok (.aload_n 0, 1) := dk_42 (dk_at dksX4_found_0 3 rfl rfl)
theorem dX4_found_4 : decode cX4_found 4 = .ok (.iload_n 1, 1) := dk_27 (dk_at dksX4_found_0 4 rfl rfl)
theorem dX4_found_5 : decode cX4_found 5 = .ok (.invokevirtual 82, 3) := dk_182 0 82 (dk_at dksX4_found_0 5 rfl rfl)
theorem dX4_found_8 : decode cX4_found 8 = .ok (.istore 5, 2) := dk_54 5 (dk_at dksX4_found_0 8 rfl rfl)
theorem dX4_found_10 : decode cX4_found 10 = .ok (.iconst 0, 1) := dk_3 (dk_at dksX4_found_0 10 rfl rfl)
theorem dX4_found_11 : decode cX4_found 11 = .ok (.istore 6, 2) := dk_54 6 (dk_at dksX4_found_0 11 rfl rfl)
theorem dX4_found_13 : decode cX4_found 13 = .ok (.iload 6, 2) := dk_21 6 (dk_at dksX4_found_0 13 rfl rfl)
theorem dX4_found_15 : decode cX4_found 15 = .ok (.aload_n 0, 1) := dk_42 (dk_at dksX4_found_0 15 rfl rfl)
theorem dX4_found_16 : decode cX4_found 16 = .ok (.getfield 21, 3) := dk_180 0 21 (dk_at dksX4_found_0 16 rfl rfl)
theorem dX4_found_19 : decode cX4_found 19 = .ok (.getfield 32, 3) := dk_180 0 32 (dk_at dksX4_found_0 19 rfl rfl)
theorem dX4_found_22 : decode cX4_found 22 = .ok (.if_icmp .ge 59, 3) := dk_162 0 59 (dk_at dksX4_found_1 0 rfl rfl)
theorem dX4_found_25 : decode cX4_found 25 = .ok (.iload 4, 2) := dk_21 4 (dk_at dksX4_found_1 3 rfl rfl)
theorem dX4_found_27 : decode cX4_found 27 = .ok (.iload 5, 2) := dk_21 5 (dk_at dksX4_found_1 5 rfl rfl)
theorem dX4_found_29 : decode cX4_found 29 = .ok (.aload_n 0, 1) := dk_42 (dk_at dksX4_found_1 7 rfl rfl)
theorem dX4_found_30 : decode cX4_found 30 = .ok (.getfield 29, 3) := dk_180 0 29 (dk_at dksX4_found_1 8 rfl rfl)
theorem dX4_found_33 : decode cX4_found 33 = .ok (.iand, 1) := dk_126 (dk_at dksX4_found_1 11 rfl rfl)
theorem dX4_found_34 : decode cX4_found 34 = .ok (.iload 6, 2) := dk_21 6 (dk_at dksX4_found_1 12 rfl rfl)
theorem dX4_found_36 : decode cX4_found 36 = .ok (.invokestatic 85, 3) := dk_184 0 85 (dk_at dksX4_found_1 14 rfl rfl)
theorem dX4_found_39 : decode cX4_found 39 = .ok (.ifCond .eq 32, 3) := dk_153 0 32 (dk_at dksX4_found_1 17 rfl rfl)
theorem dX4_found_42 : decode cX4_found 42 = .ok (.aload_n 0, 1) := dk_42 (dk_at dksX4_found_1 20 rfl rfl)
theorem dX4_found_43 : decode cX4_found 43 = .ok (.iload 6, 2) := dk_21 6 (dk_at dksX4_found_1 21 rfl rfl)
theorem dX4_found_45 : decode cX4_found 45 = .ok (.iload_n 3, 1) := dk_29 (dk_at dksX4_found_1 23 rfl rfl)
theorem dX4_found_46 : decode cX4_found 46 = .ok (.invokevirtual 88, 3) := dk_182 0 88 (dk_at dksX4_found_2 0 rfl rfl)
theorem dX4_found_49 : decode cX4_found 49 = .ok (.aload_n 0, 1) := dk_42 (dk_at dksX4_found_2 3 rfl rfl)
theorem dX4_found_50 : decode cX4_found 50 = .ok (.getfield 21, 3) := dk_180 0 21 (dk_at dksX4_found_2 4 rfl rfl)
theorem dX4_found_53 : decode cX4_found 53 = .ok (.getfield 91, 3) := dk_180 0 91 (dk_at dksX4_found_2 7 rfl rfl)
theorem dX4_found_56 : decode cX4_found 56 = .ok (.iload_n 2, 1) := dk_28 (dk_at dksX4_found_2 10 rfl rfl)
theorem dX4_found_57 : decode cX4_found 57 = .ok (.aaload, 1) := dk_50 (dk_at dksX4_found_2 11 rfl rfl)
theorem dX4_found_58 : decode cX4_found 58 = .ok (.getfield 95, 3) := dk_180 0 95 (dk_at dksX4_found_2 12 rfl rfl)
theorem dX4_found_61 : decode cX4_found 61 = .ok (.if_icmp .lt 10, 3) := dk_161 0 10 (dk_at dksX4_found_2 15 rfl rfl)
theorem dX4_found_64 : decode cX4_found 64 = .ok (.iconst 1, 1) := dk_4 (dk_at dksX4_found_2 18 rfl rfl)
theorem dX4_found_65 : decode cX4_found 65 = .ok (.iload 6, 2) := dk_21 6 (dk_at dksX4_found_2 19 rfl rfl)
theorem dX4_found_67 : decode cX4_found 67 = .ok (.ishl, 1) := dk_120 (dk_at dksX4_found_2 21 rfl rfl)
theorem dX4_found_68 : decode cX4_found 68 = .ok (.goto 4, 3) := dk_167 0 4 (dk_at dksX4_found_3 0 rfl rfl)
theorem dX4_found_71 : decode cX4_found 71 = .ok (.iconst 0, 1) := dk_3 (dk_at dksX4_found_3 3 rfl rfl)
theorem dX4_found_72 : decode cX4_found 72 = .ok (.ior, 1) := dk_128 (dk_at dksX4_found_3 4 rfl rfl)
theorem dX4_found_73 : decode cX4_found 73 = .ok (.istore 4, 2) := dk_54 4 (dk_at dksX4_found_3 5 rfl rfl)
theorem dX4_found_75 : decode cX4_found 75 = .ok (.iinc 6 1, 3) := dk_132 6 1 (dk_at dksX4_found_3 7 rfl rfl)
theorem dX4_found_78 : decode cX4_found 78 = .ok (.goto (-65), 3) := dk_167 255 191 (dk_at dksX4_found_3 10 rfl rfl)
theorem dX4_found_81 : decode cX4_found 81 = .ok (.iload 4, 2) := dk_21 4 (dk_at dksX4_found_3 13 rfl rfl)
theorem dX4_found_83 : decode cX4_found 83 = .ok (.ireturn, 1) := dk_172 (dk_at dksX4_found_3 15 rfl rfl)
abbrev cX4_crosses : ByteArray := prog_14_method_10_code
def yX4_crosses : MethodName := ⟨RX4, "crosses", "(IIILSaltedGate$Law;)I"⟩
def dkwX4_crosses_3 : List UInt8 := [180, 0, 18, 27, 92, 46, 21, 5, 96, 79, 21, 5, 172]
abbrev dktX4_crosses_3 : List UInt8 := dkwX4_crosses_3 ++ []
def dkwX4_crosses_2 : List UInt8 := [21, 7, 28, 21, 7, 184, 0, 85, 153, 0, 7, 6, 167, 0, 4, 5, 79, 132, 7, 1, 167, 255, 210, 42]
abbrev dktX4_crosses_2 : List UInt8 := dkwX4_crosses_2 ++ dktX4_crosses_3
def dkwX4_crosses_1 : List UInt8 := [180, 0, 21, 180, 0, 32, 162, 0, 40, 21, 6, 21, 7, 184, 0, 85, 153, 0, 24, 42, 180, 0, 9]
abbrev dktX4_crosses_1 : List UInt8 := dkwX4_crosses_1 ++ dktX4_crosses_2
def dkwX4_crosses_0 : List UInt8 := [42, 27, 28, 29, 25, 4, 182, 0, 107, 54, 5, 42, 27, 182, 0, 82, 54, 6, 3, 54, 7, 21, 7, 42]
abbrev dktX4_crosses_0 : List UInt8 := dkwX4_crosses_0 ++ dktX4_crosses_1
theorem dksX4_crosses_0 : cX4_crosses.data.toList.drop 0 = dktX4_crosses_0 := by decide +kernel
theorem dksX4_crosses_1 : cX4_crosses.data.toList.drop 24 = dktX4_crosses_1 := dk_seg dksX4_crosses_0 24 rfl rfl
theorem dksX4_crosses_2 : cX4_crosses.data.toList.drop 47 = dktX4_crosses_2 := dk_seg dksX4_crosses_1 23 rfl rfl
theorem dksX4_crosses_3 : cX4_crosses.data.toList.drop 71 = dktX4_crosses_3 := dk_seg dksX4_crosses_2 24 rfl rfl
theorem dX4_crosses_0 : decode cX4_crosses 0 = .ok (.aload_n 0, 1) := dk_42 (dk_at dksX4_crosses_0 0 rfl rfl)
theorem dX4_crosses_1 : decode cX4_crosses 1 = .ok (.iload_n 1, 1) := dk_27 (dk_at dksX4_crosses_0 1 rfl rfl)
theorem dX4_crosses_2 : decode cX4_crosses 2 = .ok (.iload_n 2, 1) := dk_28 (dk_at dksX4_crosses_0 2 rfl rfl)
theorem dX4_crosses_3 : decode cX4_crosses 3 = .ok (.iload_n 3, 1) := dk_29 (dk_at dksX4_crosses_0 3 rfl rfl)
theorem dX4_crosses_4 : decode cX4_crosses 4 = .ok (.aload 4, 2) := dk_25 4 (dk_at dksX4_crosses_0 4 rfl rfl)
theorem dX4_crosses_6 : decode cX4_crosses 6 = .ok (.invokevirtual 107, 3) := dk_182 0 107 (dk_at dksX4_crosses_0 6 rfl rfl)
theorem dX4_crosses_9 : decode cX4_crosses 9 = .ok (.istore 5, 2) := dk_54 5 (dk_at dksX4_crosses_0 9 rfl rfl)
theorem dX4_crosses_11 : decode cX4_crosses 11 = .ok (.aload_n 0, 1) := dk_42 (dk_at dksX4_crosses_0 11 rfl rfl)
theorem dX4_crosses_12 : decode cX4_crosses 12 = .ok (.iload_n 1, 1) := dk_27 (dk_at dksX4_crosses_0 12 rfl rfl)
theorem dX4_crosses_13 : decode cX4_crosses 13 = .ok (.invokevirtual 82, 3) := dk_182 0 82 (dk_at dksX4_crosses_0 13 rfl rfl)
theorem dX4_crosses_16 : decode cX4_crosses 16 = .ok (.istore 6, 2) := dk_54 6 (dk_at dksX4_crosses_0 16 rfl rfl)
theorem dX4_crosses_18 : decode cX4_crosses 18 = .ok (.iconst 0, 1) := dk_3 (dk_at dksX4_crosses_0 18 rfl rfl)
theorem dX4_crosses_19 : decode cX4_crosses 19 = .ok (.istore 7, 2) := dk_54 7 (dk_at dksX4_crosses_0 19 rfl rfl)
theorem dX4_crosses_21 : decode cX4_crosses 21 = .ok (.iload 7, 2) := dk_21 7 (dk_at dksX4_crosses_0 21 rfl rfl)
theorem dX4_crosses_23 : decode cX4_crosses 23 = .ok (.aload_n 0, 1) := dk_42 (dk_at dksX4_crosses_0 23 rfl rfl)
theorem dX4_crosses_24 : decode cX4_crosses 24 = .ok (.getfield 21, 3) := dk_180 0 21 (dk_at dksX4_crosses_1 0 rfl rfl)
theorem dX4_crosses_27 : decode cX4_crosses 27 = .ok (.getfield 32, 3) := dk_180 0 32 (dk_at dksX4_crosses_1 3 rfl rfl)
theorem dX4_crosses_30 : decode cX4_crosses 30 = .ok (.if_icmp .ge 40, 3) := dk_162 0 40 (dk_at dksX4_crosses_1 6 rfl rfl)
theorem dX4_crosses_33 : decode cX4_crosses 33 = .ok (.iload 6, 2) := dk_21 6 (dk_at dksX4_crosses_1 9 rfl rfl)
theorem dX4_crosses_35 : decode cX4_crosses 35 = .ok (.iload 7, 2) := dk_21 7 (dk_at dksX4_crosses_1 11 rfl rfl)
theorem dX4_crosses_37 : decode cX4_crosses 37 = .ok (.invokestatic 85, 3) := dk_184 0 85 (dk_at dksX4_crosses_1 13 rfl rfl)
theorem dX4_crosses_40 : decode cX4_crosses 40 = .ok (.ifCond .eq 24, 3) := dk_153 0 24 (dk_at dksX4_crosses_1 16 rfl rfl)
theorem dX4_crosses_43 : decode cX4_crosses 43 = .ok (.aload_n 0, 1) := dk_42 (dk_at dksX4_crosses_1 19 rfl rfl)
theorem dX4_crosses_44 : decode cX4_crosses 44 = .ok (.getfield 9, 3) := dk_180 0 9 (dk_at dksX4_crosses_1 20 rfl rfl)
theorem dX4_crosses_47 : decode cX4_crosses 47 = .ok (.iload 7, 2) := dk_21 7 (dk_at dksX4_crosses_2 0 rfl rfl)
theorem dX4_crosses_49 : decode cX4_crosses 49 = .ok (.iload_n 2, 1) := dk_28 (dk_at dksX4_crosses_2 2 rfl rfl)
theorem dX4_crosses_50 : decode cX4_crosses 50 = .ok (.iload 7, 2) := dk_21 7 (dk_at dksX4_crosses_2 3 rfl rfl)
theorem dX4_crosses_52 : decode cX4_crosses 52 = .ok (.invokestatic 85, 3) := dk_184 0 85 (dk_at dksX4_crosses_2 5 rfl rfl)
theorem dX4_crosses_55 : decode cX4_crosses 55 = .ok (.ifCond .eq 7, 3) := dk_153 0 7 (dk_at dksX4_crosses_2 8 rfl rfl)
theorem dX4_crosses_58 : decode cX4_crosses 58 = .ok (.iconst 3, 1) := dk_6 (dk_at dksX4_crosses_2 11 rfl rfl)
theorem dX4_crosses_59 : decode cX4_crosses 59 = .ok (.goto 4, 3) := dk_167 0 4 (dk_at dksX4_crosses_2 12 rfl rfl)
theorem dX4_crosses_62 : decode cX4_crosses 62 = .ok (.iconst 2, 1) := dk_5 (dk_at dksX4_crosses_2 15 rfl rfl)
theorem dX4_crosses_63 : decode cX4_crosses 63 = .ok (.iastore, 1) := dk_79 (dk_at dksX4_crosses_2 16 rfl rfl)
theorem dX4_crosses_64 : decode cX4_crosses 64 = .ok (.iinc 7 1, 3) := dk_132 7 1 (dk_at dksX4_crosses_2 17 rfl rfl)
theorem dX4_crosses_67 : decode cX4_crosses 67 = .ok (.goto (-46), 3) := dk_167 255 210 (dk_at dksX4_crosses_2 20 rfl rfl)
theorem dX4_crosses_70 : decode cX4_crosses 70 = .ok (.aload_n 0, 1) := dk_42 (dk_at dksX4_crosses_2 23 rfl rfl)
theorem dX4_crosses_71 : decode cX4_crosses 71 = .ok (.getfield 18, 3) := dk_180 0 18 (dk_at dksX4_crosses_3 0 rfl rfl)
theorem dX4_crosses_74 : decode cX4_crosses 74 = .ok (.iload_n 1, 1) := dk_27 (dk_at dksX4_crosses_3 3 rfl rfl)
theorem dX4_crosses_75 : decode cX4_crosses 75 = .ok (.dup2, 1) := dk_92 (dk_at dksX4_crosses_3 4 rfl rfl)
theorem dX4_crosses_76 : decode cX4_crosses 76 = .ok (.iaload, 1) := dk_46 (dk_at dksX4_crosses_3 5 rfl rfl)
theorem dX4_crosses_77 : decode cX4_crosses 77 = .ok (.iload 5, 2) := dk_21 5 (dk_at dksX4_crosses_3 6 rfl rfl)
theorem dX4_crosses_79 : decode cX4_crosses 79 = .ok (.iadd, 1) := dk_96 (dk_at dksX4_crosses_3 8 rfl rfl)
theorem dX4_crosses_80 : decode cX4_crosses 80 = .ok (.iastore, 1) := dk_79 (dk_at dksX4_crosses_3 9 rfl rfl)
theorem dX4_crosses_81 : decode cX4_crosses 81 = .ok (.iload 5, 2) := dk_21 5 (dk_at dksX4_crosses_3 10 rfl rfl)
theorem dX4_crosses_83 : decode cX4_crosses 83 = .ok (.ireturn, 1) := dk_172 (dk_at dksX4_crosses_3 12 rfl rfl)
abbrev cX4_asked : ByteArray := prog_14_method_9_code
def yX4_asked : MethodName := ⟨RX4, "asked", "(IIILSaltedGate$Law;)I"⟩
def dkwX4_asked_5 : List UInt8 := [184, 0, 76, 21, 6, 96, 172]
abbrev dktX4_asked_5 : List UInt8 := dkwX4_asked_5 ++ []
def dkwX4_asked_4 : List UInt8 := [54, 6, 132, 8, 1, 167, 255, 173, 3, 21, 5, 42, 180, 0, 21, 180, 0, 55, 27, 50, 180, 0, 104, 100]
abbrev dktX4_asked_4 : List UInt8 := dkwX4_asked_4 ++ dktX4_asked_5
def dkwX4_asked_3 : List UInt8 := [3, 96, 54, 5, 21, 6, 28, 21, 8, 184, 0, 85, 153, 0, 10, 6, 21, 9, 104, 167, 0, 4, 3, 96]
abbrev dktX4_asked_3 : List UInt8 := dkwX4_asked_3 ++ dktX4_asked_4
def dkwX4_asked_2 : List UInt8 := [21, 5, 21, 7, 42, 180, 0, 29, 2, 130, 126, 21, 8, 184, 0, 85, 153, 0, 8, 21, 9, 167, 0, 4]
abbrev dktX4_asked_2 : List UInt8 := dkwX4_asked_2 ++ dktX4_asked_3
def dkwX4_asked_1 : List UInt8 := [180, 0, 32, 162, 0, 77, 42, 180, 0, 21, 180, 0, 37, 21, 8, 50, 29, 25, 4, 182, 0, 100, 54, 9]
abbrev dktX4_asked_1 : List UInt8 := dkwX4_asked_1 ++ dktX4_asked_2
def dkwX4_asked_0 : List UInt8 := [3, 54, 5, 3, 54, 6, 42, 27, 182, 0, 82, 54, 7, 3, 54, 8, 21, 8, 42, 180, 0, 21]
abbrev dktX4_asked_0 : List UInt8 := dkwX4_asked_0 ++ dktX4_asked_1
theorem dksX4_asked_0 : cX4_asked.data.toList.drop 0 = dktX4_asked_0 := by decide +kernel
theorem dksX4_asked_1 : cX4_asked.data.toList.drop 22 = dktX4_asked_1 := dk_seg dksX4_asked_0 22 rfl rfl
theorem dksX4_asked_2 : cX4_asked.data.toList.drop 46 = dktX4_asked_2 := dk_seg dksX4_asked_1 24 rfl rfl
theorem dksX4_asked_3 : cX4_asked.data.toList.drop 70 = dktX4_asked_3 := dk_seg dksX4_asked_2 24 rfl rfl
theorem dksX4_asked_4 : cX4_asked.data.toList.drop 94 = dktX4_asked_4 := dk_seg dksX4_asked_3 24 rfl rfl
theorem dksX4_asked_5 : cX4_asked.data.toList.drop 118 = dktX4_asked_5 := dk_seg dksX4_asked_4 24 rfl rfl
theorem dX4_asked_0 : decode cX4_asked 0 = .ok (.iconst 0, 1) := dk_3 (dk_at dksX4_asked_0 0 rfl rfl)
theorem dX4_asked_1 : decode cX4_asked 1 = .ok (.istore 5, 2) := dk_54 5 (dk_at dksX4_asked_0 1 rfl rfl)
theorem dX4_asked_3 : decode cX4_asked 3 = .ok (.iconst 0, 1) := dk_3 (dk_at dksX4_asked_0 3 rfl rfl)
theorem dX4_asked_4 : decode cX4_asked 4 = .ok (.istore 6, 2) := dk_54 6 (dk_at dksX4_asked_0 4 rfl rfl)
theorem dX4_asked_6 : decode cX4_asked 6 = .ok (.aload_n 0, 1) := dk_42 (dk_at dksX4_asked_0 6 rfl rfl)
theorem dX4_asked_7 : decode cX4_asked 7 = .ok (.iload_n 1, 1) := dk_27 (dk_at dksX4_asked_0 7 rfl rfl)
theorem dX4_asked_8 : decode cX4_asked 8 = .ok (.invokevirtual 82, 3) := dk_182 0 82 (dk_at dksX4_asked_0 8 rfl rfl)
theorem dX4_asked_11 : decode cX4_asked 11 = .ok (.istore 7, 2) := dk_54 7 (dk_at dksX4_asked_0 11 rfl rfl)
theorem dX4_asked_13 : decode cX4_asked 13 = .ok (.iconst 0, 1) := dk_3 (dk_at dksX4_asked_0 13 rfl rfl)
theorem dX4_asked_14 : decode cX4_asked 14 = .ok (.istore 8, 2) := dk_54 8 (dk_at dksX4_asked_0 14 rfl rfl)
theorem dX4_asked_16 : decode cX4_asked 16 = .ok (.iload 8, 2) := dk_21 8 (dk_at dksX4_asked_0 16 rfl rfl)
theorem dX4_asked_18 : decode cX4_asked 18 = .ok (.aload_n 0, 1) := dk_42 (dk_at dksX4_asked_0 18 rfl rfl)
theorem dX4_asked_19 : decode cX4_asked 19 = .ok (.getfield 21, 3) := dk_180 0 21 (dk_at dksX4_asked_0 19 rfl rfl)
theorem dX4_asked_22 : decode cX4_asked 22 = .ok (.getfield 32, 3) := dk_180 0 32 (dk_at dksX4_asked_1 0 rfl rfl)
theorem dX4_asked_25 : decode cX4_asked 25 = .ok (.if_icmp .ge 77, 3) := dk_162 0 77 (dk_at dksX4_asked_1 3 rfl rfl)
theorem dX4_asked_28 : decode cX4_asked 28 = .ok (.aload_n 0, 1) := dk_42 (dk_at dksX4_asked_1 6 rfl rfl)
theorem dX4_asked_29 : decode cX4_asked 29 = .ok (.getfield 21, 3) := dk_180 0 21 (dk_at dksX4_asked_1 7 rfl rfl)
theorem dX4_asked_32 : decode cX4_asked 32 = .ok (.getfield 37, 3) := dk_180 0 37 (dk_at dksX4_asked_1 10 rfl rfl)
theorem dX4_asked_35 : decode cX4_asked 35 = .ok (.iload 8, 2) := dk_21 8 (dk_at dksX4_asked_1 13 rfl rfl)
theorem dX4_asked_37 : decode cX4_asked 37 = .ok (.aaload, 1) := dk_50 (dk_at dksX4_asked_1 15 rfl rfl)
theorem dX4_asked_38 : decode cX4_asked 38 = .ok (.iload_n 3, 1) := dk_29 (dk_at dksX4_asked_1 16 rfl rfl)
theorem dX4_asked_39 : decode cX4_asked 39 = .ok (.aload 4, 2) := dk_25 4 (dk_at dksX4_asked_1 17 rfl rfl)
theorem dX4_asked_41 : decode cX4_asked 41 = .ok (.invokevirtual 100, 3) := dk_182 0 100 (dk_at dksX4_asked_1 19 rfl rfl)
theorem dX4_asked_44 : decode cX4_asked 44 = .ok (.istore 9, 2) := dk_54 9 (dk_at dksX4_asked_1 22 rfl rfl)
theorem dX4_asked_46 : decode cX4_asked 46 = .ok (.iload 5, 2) := dk_21 5 (dk_at dksX4_asked_2 0 rfl rfl)
theorem dX4_asked_48 : decode cX4_asked 48 = .ok (.iload 7, 2) := dk_21 7 (dk_at dksX4_asked_2 2 rfl rfl)
theorem dX4_asked_50 : decode cX4_asked 50 = .ok (.aload_n 0, 1) := dk_42 (dk_at dksX4_asked_2 4 rfl rfl)
theorem dX4_asked_51 : decode cX4_asked 51 = .ok (.getfield 29, 3) := dk_180 0 29 (dk_at dksX4_asked_2 5 rfl rfl)
theorem dX4_asked_54 : decode cX4_asked 54 = .ok (.iconst (-1), 1) := dk_2 (dk_at dksX4_asked_2 8 rfl rfl)
theorem dX4_asked_55 : decode cX4_asked 55 = .ok (.ixor, 1) := dk_130 (dk_at dksX4_asked_2 9 rfl rfl)
theorem dX4_asked_56 : decode cX4_asked 56 = .ok (.iand, 1) := dk_126 (dk_at dksX4_asked_2 10 rfl rfl)
theorem dX4_asked_57 : decode cX4_asked 57 = .ok (.iload 8, 2) := dk_21 8 (dk_at dksX4_asked_2 11 rfl rfl)
theorem dX4_asked_59 : decode cX4_asked 59 = .ok (.invokestatic 85, 3) := dk_184 0 85 (dk_at dksX4_asked_2 13 rfl rfl)
theorem dX4_asked_62 : decode cX4_asked 62 = .ok (.ifCond .eq 8, 3) := dk_153 0 8 (dk_at dksX4_asked_2 16 rfl rfl)
theorem dX4_asked_65 : decode cX4_asked 65 = .ok (.iload 9, 2) := dk_21 9 (dk_at dksX4_asked_2 19 rfl rfl)
theorem dX4_asked_67 : decode cX4_asked 67 = .ok (.goto 4, 3) := dk_167 0 4 (dk_at dksX4_asked_2 21 rfl rfl)
theorem dX4_asked_70 : decode cX4_asked 70 = .ok (.iconst 0, 1) := dk_3 (dk_at dksX4_asked_3 0 rfl rfl)
theorem dX4_asked_71 : decode cX4_asked 71 = .ok (.iadd, 1) := dk_96 (dk_at dksX4_asked_3 1 rfl rfl)
theorem dX4_asked_72 : decode cX4_asked 72 = .ok (.istore 5, 2) := dk_54 5 (dk_at dksX4_asked_3 2 rfl rfl)
theorem dX4_asked_74 : decode cX4_asked 74 = .ok (.iload 6, 2) := dk_21 6 (dk_at dksX4_asked_3 4 rfl rfl)
theorem dX4_asked_76 : decode cX4_asked 76 = .ok (.iload_n 2, 1) := dk_28 (dk_at dksX4_asked_3 6 rfl rfl)
theorem dX4_asked_77 : decode cX4_asked 77 = .ok (.iload 8, 2) := dk_21 8 (dk_at dksX4_asked_3 7 rfl rfl)
theorem dX4_asked_79 : decode cX4_asked 79 = .ok (.invokestatic 85, 3) := dk_184 0 85 (dk_at dksX4_asked_3 9 rfl rfl)
theorem dX4_asked_82 : decode cX4_asked 82 = .ok (.ifCond .eq 10, 3) := dk_153 0 10 (dk_at dksX4_asked_3 12 rfl rfl)
theorem dX4_asked_85 : decode cX4_asked 85 = .ok (.iconst 3, 1) := dk_6 (dk_at dksX4_asked_3 15 rfl rfl)
theorem dX4_asked_86 : decode cX4_asked 86 = .ok (.iload 9, 2) := dk_21 9 (dk_at dksX4_asked_3 16 rfl rfl)
theorem dX4_asked_88 : decode cX4_asked 88 = .ok (.imul, 1) := dk_104 (dk_at dksX4_asked_3 18 rfl rfl)
theorem dX4_asked_89 : decode cX4_asked 89 = .ok (.goto 4, 3) := dk_167 0 4 (dk_at dksX4_asked_3 19 rfl rfl)
theorem dX4_asked_92 : decode cX4_asked 92 = .ok (.iconst 0, 1) := dk_3 (dk_at dksX4_asked_3 22 rfl rfl)
theorem dX4_asked_93 : decode cX4_asked 93 = .ok (.iadd, 1) := dk_96 (dk_at dksX4_asked_3 23 rfl rfl)
theorem dX4_asked_94 : decode cX4_asked 94 = .ok (.istore 6, 2) := dk_54 6 (dk_at dksX4_asked_4 0 rfl rfl)
theorem dX4_asked_96 : decode cX4_asked 96 = .ok (.iinc 8 1, 3) := dk_132 8 1 (dk_at dksX4_asked_4 2 rfl rfl)
theorem dX4_asked_99 : decode cX4_asked 99 = .ok (.goto (-83), 3) := dk_167 255 173 (dk_at dksX4_asked_4 5 rfl rfl)
theorem dX4_asked_102 : decode cX4_asked 102 = .ok (.iconst 0, 1) := dk_3 (dk_at dksX4_asked_4 8 rfl rfl)
theorem dX4_asked_103 : decode cX4_asked 103 = .ok (.iload 5, 2) := dk_21 5 (dk_at dksX4_asked_4 9 rfl rfl)
theorem dX4_asked_105 : decode cX4_asked 105 = .ok (.aload_n 0, 1) := dk_42 (dk_at dksX4_asked_4 11 rfl rfl)
theorem dX4_asked_106 : decode cX4_asked 106 = .ok (.getfield 21, 3) := dk_180 0 21 (dk_at dksX4_asked_4 12 rfl rfl)
theorem dX4_asked_109 : decode cX4_asked 109 = .ok (.getfield 55, 3) := dk_180 0 55 (dk_at dksX4_asked_4 15 rfl rfl)
theorem dX4_asked_112 : decode cX4_asked 112 = .ok (.iload_n 1, 1) := dk_27 (dk_at dksX4_asked_4 18 rfl rfl)
theorem dX4_asked_113 : decode cX4_asked 113 = .ok (.aaload, 1) := dk_50 (dk_at dksX4_asked_4 19 rfl rfl)
theorem dX4_asked_114 : decode cX4_asked 114 = .ok (.getfield 104, 3) := dk_180 0 104 (dk_at dksX4_asked_4 20 rfl rfl)
theorem dX4_asked_117 : decode cX4_asked 117 = .ok (.isub, 1) := dk_100 (dk_at dksX4_asked_4 23 rfl rfl)
theorem dX4_asked_118 : decode cX4_asked 118 = .ok (.invokestatic 76, 3) := dk_184 0 76 (dk_at dksX4_asked_5 0 rfl rfl)
theorem dX4_asked_121 : decode cX4_asked 121 = .ok (.iload 6, 2) := dk_21 6 (dk_at dksX4_asked_5 3 rfl rfl)
theorem dX4_asked_123 : decode cX4_asked 123 = .ok (.iadd, 1) := dk_96 (dk_at dksX4_asked_5 5 rfl rfl)
theorem dX4_asked_124 : decode cX4_asked 124 = .ok (.ireturn, 1) := dk_172 (dk_at dksX4_asked_5 6 rfl rfl)
abbrev cX4_hunger : ByteArray := prog_14_method_6_code
def yX4_hunger : MethodName := ⟨RX4, "hunger", "(I)I"⟩
def dkwX4_hunger_0 : List UInt8 := [42, 180, 0, 21, 180, 0, 55, 27, 50, 180, 0, 59, 42, 180, 0, 15, 27, 46, 100, 172]
abbrev dktX4_hunger_0 : List UInt8 := dkwX4_hunger_0 ++ []
theorem dksX4_hunger_0 : cX4_hunger.data.toList.drop 0 = dktX4_hunger_0 := by decide +kernel
theorem dX4_hunger_0 : decode cX4_hunger 0 = .ok (.aload_n 0, 1) := dk_42 (dk_at dksX4_hunger_0 0 rfl rfl)
theorem dX4_hunger_1 : decode cX4_hunger 1 = .ok (.getfield 21, 3) := dk_180 0 21 (dk_at dksX4_hunger_0 1 rfl rfl)
theorem dX4_hunger_4 : decode cX4_hunger 4 = .ok (.getfield 55, 3) := dk_180 0 55 (dk_at dksX4_hunger_0 4 rfl rfl)
theorem dX4_hunger_7 : decode cX4_hunger 7 = .ok (.iload_n 1, 1) := dk_27 (dk_at dksX4_hunger_0 7 rfl rfl)
theorem dX4_hunger_8 : decode cX4_hunger 8 = .ok (.aaload, 1) := dk_50 (dk_at dksX4_hunger_0 8 rfl rfl)
theorem dX4_hunger_9 : decode cX4_hunger 9 = .ok (.getfield 59, 3) := dk_180 0 59 (dk_at dksX4_hunger_0 9 rfl rfl)
theorem dX4_hunger_12 : decode cX4_hunger 12 = .ok (.aload_n 0, 1) := dk_42 (dk_at dksX4_hunger_0 12 rfl rfl)
theorem dX4_hunger_13 : decode cX4_hunger 13 = .ok (.getfield 15, 3) := dk_180 0 15 (dk_at dksX4_hunger_0 13 rfl rfl)
theorem dX4_hunger_16 : decode cX4_hunger 16 = .ok (.iload_n 1, 1) := dk_27 (dk_at dksX4_hunger_0 16 rfl rfl)
theorem dX4_hunger_17 : decode cX4_hunger 17 = .ok (.iaload, 1) := dk_46 (dk_at dksX4_hunger_0 17 rfl rfl)
theorem dX4_hunger_18 : decode cX4_hunger 18 = .ok (.isub, 1) := dk_100 (dk_at dksX4_hunger_0 18 rfl rfl)
theorem dX4_hunger_19 : decode cX4_hunger 19 = .ok (.ireturn, 1) := dk_172 (dk_at dksX4_hunger_0 19 rfl rfl)
abbrev cX4_become : ByteArray := prog_14_method_3_code
def yX4_become : MethodName := ⟨RX4, "become", "(LSaltedGate$Load;)V"⟩
def dkwX4_become_2 : List UInt8 := [3, 7, 184, 0, 46, 43, 180, 0, 18, 3, 42, 180, 0, 18, 3, 7, 184, 0, 46, 177]
abbrev dktX4_become_2 : List UInt8 := dkwX4_become_2 ++ []
def dkwX4_become_1 : List UInt8 := [43, 180, 0, 9, 3, 42, 180, 0, 9, 3, 16, 8, 184, 0, 46, 43, 180, 0, 15, 3, 42, 180, 0, 15]
abbrev dktX4_become_1 : List UInt8 := dkwX4_become_1 ++ dktX4_become_2
def dkwX4_become_0 : List UInt8 := [42, 43, 180, 0, 21, 181, 0, 21, 42, 43, 180, 0, 25, 181, 0, 25, 42, 43, 180, 0, 29, 181, 0, 29]
abbrev dktX4_become_0 : List UInt8 := dkwX4_become_0 ++ dktX4_become_1
theorem dksX4_become_0 : cX4_become.data.toList.drop 0 = dktX4_become_0 := by decide +kernel
theorem dksX4_become_1 : cX4_become.data.toList.drop 24 = dktX4_become_1 := dk_seg dksX4_become_0 24 rfl rfl
theorem dksX4_become_2 : cX4_become.data.toList.drop 48 = dktX4_become_2 := dk_seg dksX4_become_1 24 rfl rfl
theorem dX4_become_0 : decode cX4_become 0 = .ok (.aload_n 0, 1) := dk_42 (dk_at dksX4_become_0 0 rfl rfl)
theorem dX4_become_1 : decode cX4_become 1 = .ok (.aload_n 1, 1) := dk_43 (dk_at dksX4_become_0 1 rfl rfl)
theorem dX4_become_2 : decode cX4_become 2 = .ok (.getfield 21, 3) := dk_180 0 21 (dk_at dksX4_become_0 2 rfl rfl)
theorem dX4_become_5 : decode cX4_become 5 = .ok (.putfield 21, 3) := dk_181 0 21 (dk_at dksX4_become_0 5 rfl rfl)
theorem dX4_become_8 : decode cX4_become 8 = .ok (.aload_n 0, 1) := dk_42 (dk_at dksX4_become_0 8 rfl rfl)
theorem dX4_become_9 : decode cX4_become 9 = .ok (.aload_n 1, 1) := dk_43 (dk_at dksX4_become_0 9 rfl rfl)
theorem dX4_become_10 : decode cX4_become 10 = .ok (.getfield 25, 3) := dk_180 0 25 (dk_at dksX4_become_0 10 rfl rfl)
theorem dX4_become_13 : decode cX4_become 13 = .ok (.putfield 25, 3) := dk_181 0 25 (dk_at dksX4_become_0 13 rfl rfl)
theorem dX4_become_16 : decode cX4_become 16 = .ok (.aload_n 0, 1) := dk_42 (dk_at dksX4_become_0 16 rfl rfl)
theorem dX4_become_17 : decode cX4_become 17 = .ok (.aload_n 1, 1) := dk_43 (dk_at dksX4_become_0 17 rfl rfl)
theorem dX4_become_18 : decode cX4_become 18 = .ok (.getfield 29, 3) := dk_180 0 29 (dk_at dksX4_become_0 18 rfl rfl)
theorem dX4_become_21 : decode cX4_become 21 = .ok (.putfield 29, 3) := dk_181 0 29 (dk_at dksX4_become_0 21 rfl rfl)
theorem dX4_become_24 : decode cX4_become 24 = .ok (.aload_n 1, 1) := dk_43 (dk_at dksX4_become_1 0 rfl rfl)
theorem dX4_become_25 : decode cX4_become 25 = .ok (.getfield 9, 3) := dk_180 0 9 (dk_at dksX4_become_1 1 rfl rfl)
theorem dX4_become_28 : decode cX4_become 28 = .ok (.iconst 0, 1) := dk_3 (dk_at dksX4_become_1 4 rfl rfl)
theorem dX4_become_29 : decode cX4_become 29 = .ok (.aload_n 0, 1) := dk_42 (dk_at dksX4_become_1 5 rfl rfl)
theorem dX4_become_30 : decode cX4_become 30 = .ok (.getfield 9, 3) := dk_180 0 9 (dk_at dksX4_become_1 6 rfl rfl)
theorem dX4_become_33 : decode cX4_become 33 = .ok (.iconst 0, 1) := dk_3 (dk_at dksX4_become_1 9 rfl rfl)
theorem dX4_become_34 : decode cX4_become 34 = .ok (.bipush 8, 2) := dk_16 8 (dk_at dksX4_become_1 10 rfl rfl)
theorem dX4_become_36 : decode cX4_become 36 = .ok (.invokestatic 46, 3) := dk_184 0 46 (dk_at dksX4_become_1 12 rfl rfl)
theorem dX4_become_39 : decode cX4_become 39 = .ok (.aload_n 1, 1) := dk_43 (dk_at dksX4_become_1 15 rfl rfl)
theorem dX4_become_40 : decode cX4_become 40 = .ok (.getfield 15, 3) := dk_180 0 15 (dk_at dksX4_become_1 16 rfl rfl)
theorem dX4_become_43 : decode cX4_become 43 = .ok (.iconst 0, 1) := dk_3 (dk_at dksX4_become_1 19 rfl rfl)
theorem dX4_become_44 : decode cX4_become 44 = .ok (.aload_n 0, 1) := dk_42 (dk_at dksX4_become_1 20 rfl rfl)
theorem dX4_become_45 : decode cX4_become 45 = .ok (.getfield 15, 3) := dk_180 0 15 (dk_at dksX4_become_1 21 rfl rfl)
theorem dX4_become_48 : decode cX4_become 48 = .ok (.iconst 0, 1) := dk_3 (dk_at dksX4_become_2 0 rfl rfl)
theorem dX4_become_49 : decode cX4_become 49 = .ok (.iconst 4, 1) := dk_7 (dk_at dksX4_become_2 1 rfl rfl)
theorem dX4_become_50 : decode cX4_become 50 = .ok (.invokestatic 46, 3) := dk_184 0 46 (dk_at dksX4_become_2 2 rfl rfl)
theorem dX4_become_53 : decode cX4_become 53 = .ok (.aload_n 1, 1) := dk_43 (dk_at dksX4_become_2 5 rfl rfl)
theorem dX4_become_54 : decode cX4_become 54 = .ok (.getfield 18, 3) := dk_180 0 18 (dk_at dksX4_become_2 6 rfl rfl)
theorem dX4_become_57 : decode cX4_become 57 = .ok (.iconst 0, 1) := dk_3 (dk_at dksX4_become_2 9 rfl rfl)
theorem dX4_become_58 : decode cX4_become 58 = .ok (.aload_n 0, 1) := dk_42 (dk_at dksX4_become_2 10 rfl rfl)
theorem dX4_become_59 : decode cX4_become 59 = .ok (.getfield 18, 3) := dk_180 0 18 (dk_at dksX4_become_2 11 rfl rfl)
theorem dX4_become_62 : decode cX4_become 62 = .ok (.iconst 0, 1) := dk_3 (dk_at dksX4_become_2 14 rfl rfl)
theorem dX4_become_63 : decode cX4_become 63 = .ok (.iconst 4, 1) := dk_7 (dk_at dksX4_become_2 15 rfl rfl)
theorem dX4_become_64 : decode cX4_become 64 = .ok (.invokestatic 46, 3) := dk_184 0 46 (dk_at dksX4_become_2 16 rfl rfl)
theorem dX4_become_67 : decode cX4_become 67 = .ok (.return_, 1) := dk_177 (dk_at dksX4_become_2 19 rfl rfl)
abbrev cX4_all : ByteArray := prog_14_method_5_code
def yX4_all : MethodName := ⟨RX4, "all", "(I)I"⟩
def dkwX4_all_1 : List UInt8 := [160, 0, 9, 4, 29, 120, 167, 0, 4, 3, 128, 61, 132, 3, 1, 167, 255, 222, 28, 172]
abbrev dktX4_all_1 : List UInt8 := dkwX4_all_1 ++ []
def dkwX4_all_0 : List UInt8 := [3, 61, 3, 62, 29, 42, 180, 0, 21, 180, 0, 32, 162, 0, 29, 28, 42, 180, 0, 9, 29, 46, 27]
abbrev dktX4_all_0 : List UInt8 := dkwX4_all_0 ++ dktX4_all_1
theorem dksX4_all_0 : cX4_all.data.toList.drop 0 = dktX4_all_0 := by decide +kernel
theorem dksX4_all_1 : cX4_all.data.toList.drop 23 = dktX4_all_1 := dk_seg dksX4_all_0 23 rfl rfl
theorem dX4_all_0 : decode cX4_all 0 = .ok (.iconst 0, 1) := dk_3 (dk_at dksX4_all_0 0 rfl rfl)
theorem dX4_all_1 : decode cX4_all 1 = .ok (.istore_n 2, 1) := dk_61 (dk_at dksX4_all_0 1 rfl rfl)
theorem dX4_all_2 : decode cX4_all 2 = .ok (.iconst 0, 1) := dk_3 (dk_at dksX4_all_0 2 rfl rfl)
theorem dX4_all_3 : decode cX4_all 3 = .ok (.istore_n 3, 1) := dk_62 (dk_at dksX4_all_0 3 rfl rfl)
theorem dX4_all_4 : decode cX4_all 4 = .ok (.iload_n 3, 1) := dk_29 (dk_at dksX4_all_0 4 rfl rfl)
theorem dX4_all_5 : decode cX4_all 5 = .ok (.aload_n 0, 1) := dk_42 (dk_at dksX4_all_0 5 rfl rfl)
theorem dX4_all_6 : decode cX4_all 6 = .ok (.getfield 21, 3) := dk_180 0 21 (dk_at dksX4_all_0 6 rfl rfl)
theorem dX4_all_9 : decode cX4_all 9 = .ok (.getfield 32, 3) := dk_180 0 32 (dk_at dksX4_all_0 9 rfl rfl)
theorem dX4_all_12 : decode cX4_all 12 = .ok (.if_icmp .ge 29, 3) := dk_162 0 29 (dk_at dksX4_all_0 12 rfl rfl)
theorem dX4_all_15 : decode cX4_all 15 = .ok (.iload_n 2, 1) := dk_28 (dk_at dksX4_all_0 15 rfl rfl)
theorem dX4_all_16 : decode cX4_all 16 = .ok (.aload_n 0, 1) := dk_42 (dk_at dksX4_all_0 16 rfl rfl)
theorem dX4_all_17 : decode cX4_all 17 = .ok (.getfield 9, 3) := dk_180 0 9 (dk_at dksX4_all_0 17 rfl rfl)
theorem dX4_all_20 : decode cX4_all 20 = .ok (.iload_n 3, 1) := dk_29 (dk_at dksX4_all_0 20 rfl rfl)
theorem dX4_all_21 : decode cX4_all 21 = .ok (.iaload, 1) := dk_46 (dk_at dksX4_all_0 21 rfl rfl)
theorem dX4_all_22 : decode cX4_all 22 = .ok (.iload_n 1, 1) := dk_27 (dk_at dksX4_all_0 22 rfl rfl)
theorem dX4_all_23 : decode cX4_all 23 = .ok (.if_icmp .ne 9, 3) := dk_160 0 9 (dk_at dksX4_all_1 0 rfl rfl)
theorem dX4_all_26 : decode cX4_all 26 = .ok (.iconst 1, 1) := dk_4 (dk_at dksX4_all_1 3 rfl rfl)
theorem dX4_all_27 : decode cX4_all 27 = .ok (.iload_n 3, 1) := dk_29 (dk_at dksX4_all_1 4 rfl rfl)
theorem dX4_all_28 : decode cX4_all 28 = .ok (.ishl, 1) := dk_120 (dk_at dksX4_all_1 5 rfl rfl)
theorem dX4_all_29 : decode cX4_all 29 = .ok (.goto 4, 3) := dk_167 0 4 (dk_at dksX4_all_1 6 rfl rfl)
theorem dX4_all_32 : decode cX4_all 32 = .ok (.iconst 0, 1) := dk_3 (dk_at dksX4_all_1 9 rfl rfl)
theorem dX4_all_33 : decode cX4_all 33 = .ok (.ior, 1) := dk_128 (dk_at dksX4_all_1 10 rfl rfl)
theorem dX4_all_34 : decode cX4_all 34 = .ok (.istore_n 2, 1) := dk_61 (dk_at dksX4_all_1 11 rfl rfl)
theorem dX4_all_35 : decode cX4_all 35 = .ok (.iinc 3 1, 3) := dk_132 3 1 (dk_at dksX4_all_1 12 rfl rfl)
theorem dX4_all_38 : decode cX4_all 38 = .ok (.goto (-34), 3) := dk_167 255 222 (dk_at dksX4_all_1 15 rfl rfl)
theorem dX4_all_41 : decode cX4_all 41 = .ok (.iload_n 2, 1) := dk_28 (dk_at dksX4_all_1 18 rfl rfl)
theorem dX4_all_42 : decode cX4_all 42 = .ok (.ireturn, 1) := dk_172 (dk_at dksX4_all_1 19 rfl rfl)
theorem q126 : (Jvm.Cond.initialized "SaltedGate$Load") ∈ lw_all := lw_g (lw_at lw_m1 7 rfl) rfl
theorem q279 : (Jvm.Cond.instantiable "SaltedGate$Load" (6 : Nat)) ∈ lw_all := lw_g (lw_at lw_m1 160 rfl) rfl
theorem q281 : (Jvm.Cond.instanceMethod ({ cls := "SaltedGate$Load", name := "<init>", desc := "()V" } : Jvm.MethodName)) ∈ lw_all := lw_g (lw_at lw_m1 162 rfl) rfl
theorem q282 : (Jvm.Cond.code ({ cls := "SaltedGate$Load", name := "<init>", desc := "()V" } : Jvm.MethodName) prog_14_method_1_code (1 : Nat) (Option.none : Option Jvm.ClassFile.FieldType)) ∈ lw_all := lw_g (lw_at lw_m1 163 rfl) rfl
theorem q283 : (Jvm.Cond.methodLink "SaltedGate$Load" (3 : Nat) ({ cls := "java/lang/Object", name := "<init>", desc := "()V" } : Jvm.MethodName)) ∈ lw_all := lw_g (lw_at lw_m1 164 rfl) rfl
theorem q284 : (Jvm.Cond.fieldLink "SaltedGate$Load" (9 : Nat) "SaltedGate$Load" "state" "[I") ∈ lw_all := lw_g (lw_at lw_m1 165 rfl) rfl
theorem q287 : (Jvm.Cond.fieldLink "SaltedGate$Load" (15 : Nat) "SaltedGate$Load" "eaten" "[I") ∈ lw_all := lw_g (lw_at lw_m1 168 rfl) rfl
theorem q289 : (Jvm.Cond.fieldLink "SaltedGate$Load" (18 : Nat) "SaltedGate$Load" "paid" "[I") ∈ lw_all := lw_g (lw_at lw_m1 170 rfl) rfl
theorem q291 : (Jvm.Cond.fieldLink "SaltedGate$Load" (21 : Nat) "SaltedGate$Load" "barrier" "LSaltedGate$Barrier;") ∈ lw_all := lw_g (lw_at lw_m1 172 rfl) rfl
theorem q293 : (Jvm.Cond.fieldLink "SaltedGate$Load" (29 : Nat) "SaltedGate$Load" "hidden" "I") ∈ lw_all := lw_g (lw_at lw_m1 174 rfl) rfl
theorem q296 : (Jvm.Cond.fieldLink "SaltedGate$Load" (25 : Nat) "SaltedGate$Load" "day" "I") ∈ lw_all := lw_g (lw_at lw_m1 177 rfl) rfl
theorem q298 : (Jvm.Cond.laysFinal "SaltedGate$Load" "SaltedGate$Load" "state" "[I") ∈ lw_all := lw_g (lw_at lw_m1 179 rfl) rfl
theorem q299 : (Jvm.Cond.soleField "SaltedGate$Load" "state") ∈ lw_all := lw_g (lw_at lw_m1 180 rfl) rfl
theorem q300 : (Jvm.Cond.laysFinal "SaltedGate$Load" "SaltedGate$Load" "eaten" "[I") ∈ lw_all := lw_g (lw_at lw_m1 181 rfl) rfl
theorem q301 : (Jvm.Cond.soleField "SaltedGate$Load" "eaten") ∈ lw_all := lw_g (lw_at lw_m1 182 rfl) rfl
theorem q302 : (Jvm.Cond.laysFinal "SaltedGate$Load" "SaltedGate$Load" "paid" "[I") ∈ lw_all := lw_g (lw_at lw_m1 183 rfl) rfl
theorem q303 : (Jvm.Cond.soleField "SaltedGate$Load" "paid") ∈ lw_all := lw_g (lw_at lw_m1 184 rfl) rfl
theorem q304 : (Jvm.Cond.lays "SaltedGate$Load" "SaltedGate$Load" "barrier" "LSaltedGate$Barrier;") ∈ lw_all := lw_g (lw_at lw_m1 185 rfl) rfl
theorem q305 : (Jvm.Cond.soleField "SaltedGate$Load" "barrier") ∈ lw_all := lw_g (lw_at lw_m1 186 rfl) rfl
theorem q306 : (Jvm.Cond.lays "SaltedGate$Load" "SaltedGate$Load" "hidden" "I") ∈ lw_all := lw_g (lw_at lw_m1 187 rfl) rfl
theorem q307 : (Jvm.Cond.soleField "SaltedGate$Load" "hidden") ∈ lw_all := lw_g (lw_at lw_m1 188 rfl) rfl
theorem q308 : (Jvm.Cond.lays "SaltedGate$Load" "SaltedGate$Load" "day" "I") ∈ lw_all := lw_g (lw_at lw_m1 189 rfl) rfl
theorem q309 : (Jvm.Cond.soleField "SaltedGate$Load" "day") ∈ lw_all := lw_g (lw_at lw_m1 190 rfl) rfl
theorem q310 : (Jvm.Cond.superclass "SaltedGate$Load" "java/lang/Object") ∈ lw_all := lw_g (lw_at lw_m1 191 rfl) rfl
theorem q531 : (Jvm.Cond.fieldLink "SaltedGate$Load" (55 : Nat) "SaltedGate$Barrier" "people" "[LSaltedGate$Traveller;") ∈ lw_all := lw_g (lw_at lw_m2 172 rfl) rfl
theorem q536 : (Jvm.Cond.fieldLink "SaltedGate$Load" (91 : Nat) "SaltedGate$Barrier" "gates" "[LSaltedGate$Gate;") ∈ lw_all := lw_g (lw_at lw_m2 177 rfl) rfl
theorem q540 : (Jvm.Cond.fieldLink "SaltedGate$Load" (37 : Nat) "SaltedGate$Barrier" "goods" "[LSaltedGate$Good;") ∈ lw_all := lw_g (lw_at lw_m2 181 rfl) rfl
theorem q567 : (Jvm.Cond.fieldLink "SaltedGate$Load" (32 : Nat) "SaltedGate$Barrier" "goodMany" "I") ∈ lw_all := lw_g (lw_at lw_m2 208 rfl) rfl
theorem q900 : (Jvm.Cond.fieldLink "SaltedGate$Load" (104 : Nat) "SaltedGate$Traveller" "allow" "I") ∈ lw_all := lw_g (lw_at lw_m4 61 rfl) rfl
theorem q903 : (Jvm.Cond.fieldLink "SaltedGate$Load" (59 : Nat) "SaltedGate$Traveller" "hunger" "I") ∈ lw_all := lw_g (lw_at lw_m4 64 rfl) rfl
theorem q924 : (Jvm.Cond.fieldLink "SaltedGate$Load" (95 : Nat) "SaltedGate$Gate" "nose" "I") ∈ lw_all := lw_g (lw_at lw_m4 85 rfl) rfl
theorem q963 : (Jvm.Cond.fieldLink "SaltedGate$Load" (52 : Nat) "SaltedGate$Good" "whose" "I") ∈ lw_all := lw_g (lw_at lw_m4 124 rfl) rfl
theorem q978 : (Jvm.Cond.fieldLink "SaltedGate$Load" (41 : Nat) "SaltedGate$Good" "hidden" "Z") ∈ lw_all := lw_g (lw_at lw_m4 139 rfl) rfl
theorem q1142 : (Jvm.Cond.instanceMethod ({ cls := "SaltedGate$Load", name := "begin", desc := "(LSaltedGate$Barrier;)V" } : Jvm.MethodName)) ∈ lw_all := lw_g (lw_at lw_m5 63 rfl) rfl
theorem q1143 : (Jvm.Cond.selects "SaltedGate$Load" ({ cls := "SaltedGate$Load", name := "begin", desc := "(LSaltedGate$Barrier;)V" } : Jvm.MethodName) ({ cls := "SaltedGate$Load", name := "begin", desc := "(LSaltedGate$Barrier;)V" } : Jvm.MethodName)) ∈ lw_all := lw_g (lw_at lw_m5 64 rfl) rfl
theorem q1144 : (Jvm.Cond.code ({ cls := "SaltedGate$Load", name := "begin", desc := "(LSaltedGate$Barrier;)V" } : Jvm.MethodName) prog_14_method_2_code (3 : Nat) (Option.none : Option Jvm.ClassFile.FieldType)) ∈ lw_all := lw_g (lw_at lw_m5 65 rfl) rfl
theorem q1160 : (Jvm.Cond.instanceMethod ({ cls := "SaltedGate$Load", name := "has", desc := "(I)I" } : Jvm.MethodName)) ∈ lw_all := lw_g (lw_at lw_m5 81 rfl) rfl
theorem q1161 : (Jvm.Cond.selects "SaltedGate$Load" ({ cls := "SaltedGate$Load", name := "has", desc := "(I)I" } : Jvm.MethodName) ({ cls := "SaltedGate$Load", name := "has", desc := "(I)I" } : Jvm.MethodName)) ∈ lw_all := lw_g (lw_at lw_m5 82 rfl) rfl
theorem q1162 : (Jvm.Cond.code ({ cls := "SaltedGate$Load", name := "has", desc := "(I)I" } : Jvm.MethodName) prog_14_method_4_code (4 : Nat) (Option.some Jvm.ClassFile.FieldType.int)) ∈ lw_all := lw_g (lw_at lw_m5 83 rfl) rfl
theorem q1168 : (Jvm.Cond.instanceMethod ({ cls := "SaltedGate$Load", name := "smell", desc := "(II)I" } : Jvm.MethodName)) ∈ lw_all := lw_g (lw_at lw_m5 89 rfl) rfl
theorem q1169 : (Jvm.Cond.selects "SaltedGate$Load" ({ cls := "SaltedGate$Load", name := "smell", desc := "(II)I" } : Jvm.MethodName) ({ cls := "SaltedGate$Load", name := "smell", desc := "(II)I" } : Jvm.MethodName)) ∈ lw_all := lw_g (lw_at lw_m5 90 rfl) rfl
theorem q1170 : (Jvm.Cond.code ({ cls := "SaltedGate$Load", name := "smell", desc := "(II)I" } : Jvm.MethodName) prog_14_method_7_code (7 : Nat) (Option.some Jvm.ClassFile.FieldType.int)) ∈ lw_all := lw_g (lw_at lw_m5 91 rfl) rfl
theorem q1171 : (Jvm.Cond.methodLink "SaltedGate$Load" (64 : Nat) ({ cls := "SaltedGate$Good", name := "smells", desc := "(I)I" } : Jvm.MethodName)) ∈ lw_all := lw_g (lw_at lw_m5 92 rfl) rfl
theorem q1195 : (Jvm.Cond.methodLink "SaltedGate$Load" (68 : Nat) ({ cls := "SaltedGate$Good", name := "isFresh", desc := "()Z" } : Jvm.MethodName)) ∈ lw_all := lw_g (lw_at lw_m5 116 rfl) rfl
theorem q1206 : (Jvm.Cond.methodLink "SaltedGate$Load" (72 : Nat) ({ cls := "SaltedGate$Good", name := "isTurned", desc := "(I)Z" } : Jvm.MethodName)) ∈ lw_all := lw_g (lw_at lw_m5 127 rfl) rfl
theorem q1230 : (Jvm.Cond.methodLink "SaltedGate$Load" (76 : Nat) ({ cls := "java/lang/Math", name := "max", desc := "(II)I" } : Jvm.MethodName)) ∈ lw_all := lw_g (lw_at lw_m5 151 rfl) rfl
theorem q1234 : (Jvm.Cond.instanceMethod ({ cls := "SaltedGate$Load", name := "found", desc := "(III)I" } : Jvm.MethodName)) ∈ lw_all := lw_g (lw_at lw_m5 155 rfl) rfl
theorem q1235 : (Jvm.Cond.selects "SaltedGate$Load" ({ cls := "SaltedGate$Load", name := "found", desc := "(III)I" } : Jvm.MethodName) ({ cls := "SaltedGate$Load", name := "found", desc := "(III)I" } : Jvm.MethodName)) ∈ lw_all := lw_g (lw_at lw_m5 156 rfl) rfl
theorem q1236 : (Jvm.Cond.code ({ cls := "SaltedGate$Load", name := "found", desc := "(III)I" } : Jvm.MethodName) prog_14_method_8_code (7 : Nat) (Option.some Jvm.ClassFile.FieldType.int)) ∈ lw_all := lw_g (lw_at lw_m5 157 rfl) rfl
theorem q1237 : (Jvm.Cond.methodLink "SaltedGate$Load" (82 : Nat) ({ cls := "SaltedGate$Load", name := "has", desc := "(I)I" } : Jvm.MethodName)) ∈ lw_all := lw_g (lw_at lw_m5 158 rfl) rfl
theorem q1238 : (Jvm.Cond.methodLinkNest "SaltedGate$Load" (85 : Nat) ({ cls := "SaltedGate", name := "has", desc := "(II)Z" } : Jvm.MethodName) "SaltedGate") ∈ lw_tbl := lw_at lw_m5 159 rfl
theorem q1239 : (Jvm.Cond.methodLink "SaltedGate$Load" (88 : Nat) ({ cls := "SaltedGate$Load", name := "smell", desc := "(II)I" } : Jvm.MethodName)) ∈ lw_all := lw_g (lw_at lw_m5 160 rfl) rfl
theorem q1241 : (Jvm.Cond.instanceMethod ({ cls := "SaltedGate$Load", name := "crosses", desc := "(IIILSaltedGate$Law;)I" } : Jvm.MethodName)) ∈ lw_all := lw_g (lw_at lw_m5 162 rfl) rfl
theorem q1242 : (Jvm.Cond.selects "SaltedGate$Load" ({ cls := "SaltedGate$Load", name := "crosses", desc := "(IIILSaltedGate$Law;)I" } : Jvm.MethodName) ({ cls := "SaltedGate$Load", name := "crosses", desc := "(IIILSaltedGate$Law;)I" } : Jvm.MethodName)) ∈ lw_all := lw_g (lw_at lw_m5 163 rfl) rfl
theorem q1243 : (Jvm.Cond.code ({ cls := "SaltedGate$Load", name := "crosses", desc := "(IIILSaltedGate$Law;)I" } : Jvm.MethodName) prog_14_method_10_code (8 : Nat) (Option.some Jvm.ClassFile.FieldType.int)) ∈ lw_all := lw_g (lw_at lw_m5 164 rfl) rfl
theorem q1244 : (Jvm.Cond.methodLink "SaltedGate$Load" (107 : Nat) ({ cls := "SaltedGate$Load", name := "asked", desc := "(IIILSaltedGate$Law;)I" } : Jvm.MethodName)) ∈ lw_all := lw_g (lw_at lw_m5 165 rfl) rfl
theorem q1245 : (Jvm.Cond.instanceMethod ({ cls := "SaltedGate$Load", name := "asked", desc := "(IIILSaltedGate$Law;)I" } : Jvm.MethodName)) ∈ lw_all := lw_g (lw_at lw_m5 166 rfl) rfl
theorem q1246 : (Jvm.Cond.selects "SaltedGate$Load" ({ cls := "SaltedGate$Load", name := "asked", desc := "(IIILSaltedGate$Law;)I" } : Jvm.MethodName) ({ cls := "SaltedGate$Load", name := "asked", desc := "(IIILSaltedGate$Law;)I" } : Jvm.MethodName)) ∈ lw_all := lw_g (lw_at lw_m5 167 rfl) rfl
theorem q1247 : (Jvm.Cond.code ({ cls := "SaltedGate$Load", name := "asked", desc := "(IIILSaltedGate$Law;)I" } : Jvm.MethodName) prog_14_method_9_code (10 : Nat) (Option.some Jvm.ClassFile.FieldType.int)) ∈ lw_all := lw_g (lw_at lw_m5 168 rfl) rfl
theorem q1248 : (Jvm.Cond.methodLink "SaltedGate$Load" (100 : Nat) ({ cls := "SaltedGate$Good", name := "duty", desc := "(ILSaltedGate$Law;)I" } : Jvm.MethodName)) ∈ lw_all := lw_g (lw_at lw_m5 169 rfl) rfl
theorem q1326 : (Jvm.Cond.instanceMethod ({ cls := "SaltedGate$Load", name := "hunger", desc := "(I)I" } : Jvm.MethodName)) ∈ lw_all := lw_g (lw_at lw_m6 7 rfl) rfl
theorem q1327 : (Jvm.Cond.selects "SaltedGate$Load" ({ cls := "SaltedGate$Load", name := "hunger", desc := "(I)I" } : Jvm.MethodName) ({ cls := "SaltedGate$Load", name := "hunger", desc := "(I)I" } : Jvm.MethodName)) ∈ lw_all := lw_g (lw_at lw_m6 8 rfl) rfl
theorem q1328 : (Jvm.Cond.code ({ cls := "SaltedGate$Load", name := "hunger", desc := "(I)I" } : Jvm.MethodName) prog_14_method_6_code (2 : Nat) (Option.some Jvm.ClassFile.FieldType.int)) ∈ lw_all := lw_g (lw_at lw_m6 9 rfl) rfl
theorem q1458 : (Jvm.Cond.instanceMethod ({ cls := "SaltedGate$Load", name := "become", desc := "(LSaltedGate$Load;)V" } : Jvm.MethodName)) ∈ lw_all := lw_g (lw_at lw_m6 139 rfl) rfl
theorem q1459 : (Jvm.Cond.selects "SaltedGate$Load" ({ cls := "SaltedGate$Load", name := "become", desc := "(LSaltedGate$Load;)V" } : Jvm.MethodName) ({ cls := "SaltedGate$Load", name := "become", desc := "(LSaltedGate$Load;)V" } : Jvm.MethodName)) ∈ lw_all := lw_g (lw_at lw_m6 140 rfl) rfl
theorem q1460 : (Jvm.Cond.code ({ cls := "SaltedGate$Load", name := "become", desc := "(LSaltedGate$Load;)V" } : Jvm.MethodName) prog_14_method_3_code (2 : Nat) (Option.none : Option Jvm.ClassFile.FieldType)) ∈ lw_all := lw_g (lw_at lw_m6 141 rfl) rfl
theorem q1461 : (Jvm.Cond.methodLink "SaltedGate$Load" (46 : Nat) ({ cls := "java/lang/System", name := "arraycopy", desc := "(Ljava/lang/Object;ILjava/lang/Object;II)V" } : Jvm.MethodName)) ∈ lw_all := lw_g (lw_at lw_m6 142 rfl) rfl
theorem q1592 : (Jvm.Cond.instanceMethod ({ cls := "SaltedGate$Load", name := "all", desc := "(I)I" } : Jvm.MethodName)) ∈ lw_all := lw_g (lw_at lw_m7 33 rfl) rfl
theorem q1593 : (Jvm.Cond.selects "SaltedGate$Load" ({ cls := "SaltedGate$Load", name := "all", desc := "(I)I" } : Jvm.MethodName) ({ cls := "SaltedGate$Load", name := "all", desc := "(I)I" } : Jvm.MethodName)) ∈ lw_all := lw_g (lw_at lw_m7 34 rfl) rfl
theorem q1594 : (Jvm.Cond.code ({ cls := "SaltedGate$Load", name := "all", desc := "(I)I" } : Jvm.MethodName) prog_14_method_5_code (4 : Nat) (Option.some Jvm.ClassFile.FieldType.int)) ∈ lw_all := lw_g (lw_at lw_m7 35 rfl) rfl
theorem q2563 : (Jvm.Cond.castable "SaltedGate$Load" "java/lang/Object") ∈ lw_tbl := lw_at lw_m11 44 rfl
theorem in_X4 : ∀ w ∈ wsX40, w ∈ lw_all := lw_in wsX40 [298, 300, 302, 304, 306, 308] (by decide +kernel) (by decide +kernel)

/-! SaltedGate$Law -/
set_option maxRecDepth 100000
def RX5 : String := "SaltedGate$Law"
abbrev cX5_init : ByteArray := prog_13_method_1_code
def yX5_init : MethodName := ⟨RX5, "<init>", "()V"⟩
theorem dX5_init_0 : decode cX5_init 0 = .ok (.aload_n 0, 1) := by decide +kernel
theorem dX5_init_1 : decode cX5_init 1 = .ok (.invokespecial 1, 3) := by decide +kernel
theorem dX5_init_4 : decode cX5_init 4 = .ok (.return_, 1) := by decide +kernel
theorem q127 : (Jvm.Cond.initialized "SaltedGate$Law") ∈ lw_all := lw_g (lw_at lw_m1 8 rfl) rfl
theorem q318 : (Jvm.Cond.instanceMethod ({ cls := "SaltedGate$Law", name := "<init>", desc := "()V" } : Jvm.MethodName)) ∈ lw_all := lw_g (lw_at lw_m1 199 rfl) rfl
theorem q319 : (Jvm.Cond.code ({ cls := "SaltedGate$Law", name := "<init>", desc := "()V" } : Jvm.MethodName) prog_13_method_1_code (1 : Nat) (Option.none : Option Jvm.ClassFile.FieldType)) ∈ lw_all := lw_g (lw_at lw_m1 200 rfl) rfl
theorem q320 : (Jvm.Cond.methodLink "SaltedGate$Law" (1 : Nat) ({ cls := "java/lang/Object", name := "<init>", desc := "()V" } : Jvm.MethodName)) ∈ lw_all := lw_g (lw_at lw_m1 201 rfl) rfl
theorem q1259 : (Jvm.Cond.declares ({ cls := "SaltedGate$Law", name := "rate", desc := "(LSaltedGate$Means;)I" } : Jvm.MethodName)) ∈ lw_tbl := lw_at lw_m5 180 rfl
theorem q1260 : (Jvm.Cond.sameMethod "SaltedGate$Law" "SaltedGate$Law" "rate" "(LSaltedGate$Means;)I") ∈ lw_all := lw_g (lw_at lw_m5 181 rfl) rfl

/-! SaltedGate$Rates -/
set_option maxRecDepth 100000
def RX6 : String := "SaltedGate$Rates"
abbrev cX6_init : ByteArray := prog_21_method_1_code
def yX6_init : MethodName := ⟨RX6, "<init>", "()V"⟩
theorem dX6_init_0 : decode cX6_init 0 = .ok (.aload_n 0, 1) := by decide +kernel
theorem dX6_init_1 : decode cX6_init 1 = .ok (.invokespecial 1, 3) := by decide +kernel
theorem dX6_init_4 : decode cX6_init 4 = .ok (.return_, 1) := by decide +kernel
abbrev cX6_rate : ByteArray := prog_21_method_2_code
def yX6_rate : MethodName := ⟨RX6, "rate", "(LSaltedGate$Means;)I"⟩
theorem dX6_rate_0 : decode cX6_rate 0 = .ok (.aload_n 1, 1) := by decide +kernel
theorem dX6_rate_1 : decode cX6_rate 1 = .ok (.getfield 7, 3) := by decide +kernel
theorem dX6_rate_4 : decode cX6_rate 4 = .ok (.ireturn, 1) := by decide +kernel
theorem q128 : (Jvm.Cond.initialized "SaltedGate$Rates") ∈ lw_all := lw_g (lw_at lw_m1 9 rfl) rfl
theorem q313 : (Jvm.Cond.instantiable "SaltedGate$Rates" (0 : Nat)) ∈ lw_all := lw_g (lw_at lw_m1 194 rfl) rfl
theorem q315 : (Jvm.Cond.instanceMethod ({ cls := "SaltedGate$Rates", name := "<init>", desc := "()V" } : Jvm.MethodName)) ∈ lw_all := lw_g (lw_at lw_m1 196 rfl) rfl
theorem q316 : (Jvm.Cond.code ({ cls := "SaltedGate$Rates", name := "<init>", desc := "()V" } : Jvm.MethodName) prog_21_method_1_code (1 : Nat) (Option.none : Option Jvm.ClassFile.FieldType)) ∈ lw_all := lw_g (lw_at lw_m1 197 rfl) rfl
theorem q317 : (Jvm.Cond.methodLinkNest "SaltedGate$Rates" (1 : Nat) ({ cls := "SaltedGate$Law", name := "<init>", desc := "()V" } : Jvm.MethodName) "SaltedGate") ∈ lw_tbl := lw_at lw_m1 198 rfl
theorem q321 : (Jvm.Cond.superclass "SaltedGate$Rates" "SaltedGate$Law") ∈ lw_all := lw_g (lw_at lw_m1 202 rfl) rfl
theorem q851 : (Jvm.Cond.fieldLink "SaltedGate$Rates" (7 : Nat) "SaltedGate$Means" "rate" "I") ∈ lw_all := lw_g (lw_at lw_m4 12 rfl) rfl
theorem q1264 : (Jvm.Cond.selects "SaltedGate$Rates" ({ cls := "SaltedGate$Law", name := "rate", desc := "(LSaltedGate$Means;)I" } : Jvm.MethodName) ({ cls := "SaltedGate$Rates", name := "rate", desc := "(LSaltedGate$Means;)I" } : Jvm.MethodName)) ∈ lw_all := lw_g (lw_at lw_m5 185 rfl) rfl
theorem q1265 : (Jvm.Cond.instanceMethod ({ cls := "SaltedGate$Rates", name := "rate", desc := "(LSaltedGate$Means;)I" } : Jvm.MethodName)) ∈ lw_all := lw_g (lw_at lw_m5 186 rfl) rfl
theorem q1266 : (Jvm.Cond.code ({ cls := "SaltedGate$Rates", name := "rate", desc := "(LSaltedGate$Means;)I" } : Jvm.MethodName) prog_21_method_2_code (2 : Nat) (Option.some Jvm.ClassFile.FieldType.int)) ∈ lw_all := lw_g (lw_at lw_m5 187 rfl) rfl
theorem q2564 : (Jvm.Cond.castable "SaltedGate$Rates" "java/lang/Object") ∈ lw_tbl := lw_at lw_m11 45 rfl

/-! SaltedGate$Others -/
set_option maxRecDepth 100000
def RX7 : String := "SaltedGate$Others"
abbrev cX7_init : ByteArray := prog_19_method_1_code
def yX7_init : MethodName := ⟨RX7, "<init>", "()V"⟩
theorem dX7_init_0 : decode cX7_init 0 = .ok (.aload_n 0, 1) := by decide +kernel
theorem dX7_init_1 : decode cX7_init 1 = .ok (.invokespecial 1, 3) := by decide +kernel
theorem dX7_init_4 : decode cX7_init 4 = .ok (.return_, 1) := by decide +kernel
abbrev cX7_rate : ByteArray := prog_19_method_2_code
def yX7_rate : MethodName := ⟨RX7, "rate", "(LSaltedGate$Means;)I"⟩
theorem dX7_rate_0 : decode cX7_rate 0 = .ok (.aload_n 1, 1) := by decide +kernel
theorem dX7_rate_1 : decode cX7_rate 1 = .ok (.getfield 7, 3) := by decide +kernel
theorem dX7_rate_4 : decode cX7_rate 4 = .ok (.ireturn, 1) := by decide +kernel
theorem q129 : (Jvm.Cond.initialized "SaltedGate$Others") ∈ lw_all := lw_g (lw_at lw_m1 10 rfl) rfl
theorem q323 : (Jvm.Cond.instantiable "SaltedGate$Others" (0 : Nat)) ∈ lw_all := lw_g (lw_at lw_m1 204 rfl) rfl
theorem q325 : (Jvm.Cond.instanceMethod ({ cls := "SaltedGate$Others", name := "<init>", desc := "()V" } : Jvm.MethodName)) ∈ lw_all := lw_g (lw_at lw_m1 206 rfl) rfl
theorem q326 : (Jvm.Cond.code ({ cls := "SaltedGate$Others", name := "<init>", desc := "()V" } : Jvm.MethodName) prog_19_method_1_code (1 : Nat) (Option.none : Option Jvm.ClassFile.FieldType)) ∈ lw_all := lw_g (lw_at lw_m1 207 rfl) rfl
theorem q327 : (Jvm.Cond.methodLinkNest "SaltedGate$Others" (1 : Nat) ({ cls := "SaltedGate$Law", name := "<init>", desc := "()V" } : Jvm.MethodName) "SaltedGate") ∈ lw_tbl := lw_at lw_m1 208 rfl
theorem q328 : (Jvm.Cond.superclass "SaltedGate$Others" "SaltedGate$Law") ∈ lw_all := lw_g (lw_at lw_m1 209 rfl) rfl
theorem q853 : (Jvm.Cond.fieldLink "SaltedGate$Others" (7 : Nat) "SaltedGate$Means" "other" "I") ∈ lw_all := lw_g (lw_at lw_m4 14 rfl) rfl
theorem q1261 : (Jvm.Cond.selects "SaltedGate$Others" ({ cls := "SaltedGate$Law", name := "rate", desc := "(LSaltedGate$Means;)I" } : Jvm.MethodName) ({ cls := "SaltedGate$Others", name := "rate", desc := "(LSaltedGate$Means;)I" } : Jvm.MethodName)) ∈ lw_all := lw_g (lw_at lw_m5 182 rfl) rfl
theorem q1262 : (Jvm.Cond.instanceMethod ({ cls := "SaltedGate$Others", name := "rate", desc := "(LSaltedGate$Means;)I" } : Jvm.MethodName)) ∈ lw_all := lw_g (lw_at lw_m5 183 rfl) rfl
theorem q1263 : (Jvm.Cond.code ({ cls := "SaltedGate$Others", name := "rate", desc := "(LSaltedGate$Means;)I" } : Jvm.MethodName) prog_19_method_2_code (2 : Nat) (Option.some Jvm.ClassFile.FieldType.int)) ∈ lw_all := lw_g (lw_at lw_m5 184 rfl) rfl
theorem q2565 : (Jvm.Cond.castable "SaltedGate$Others" "java/lang/Object") ∈ lw_tbl := lw_at lw_m11 46 rfl

/-! SaltedGate$Course -/
set_option maxRecDepth 100000
def RX8 : String := "SaltedGate$Course"
def TX8 : u_T := fun k => match k with
  | 0 => ("SaltedGate$Course", "load", "LSaltedGate$Load;", true)
  | 1 => ("SaltedGate$Course", "asked", "[I", true)
  | 2 => ("SaltedGate$Course", "barrier", "LSaltedGate$Barrier;", false)
  | 3 => ("SaltedGate$Course", "law", "LSaltedGate$Law;", false)
  | 4 => ("SaltedGate$Course", "seed", "I", false)
  | 5 => ("SaltedGate$Course", "sum", "I", false)
  | _ => ("SaltedGate$Course", "byDraws", "Z", false)
def tyX8 : Nat → FieldType := fun k => match k with
  | 0 => .object "SaltedGate$Load"
  | 1 => .array .int
  | 2 => .object "SaltedGate$Barrier"
  | 3 => .object "SaltedGate$Law"
  | 4 => .int
  | 5 => .int
  | _ => .boolean
abbrev wsX80 : List Cond := u_ws RX8 TX8 7
theorem nmX8 : ∀ a, a < 7 → ∀ b, b < 7 → a ≠ b → (TX8 a).2.1 ≠ (TX8 b).2.1 := by decide +kernel
theorem tyX8_ok : ∀ k, k < 7 → parseFieldDescriptor (TX8 k).2.2.1 = some (tyX8 k) := by decide +kernel
abbrev cX8_init : ByteArray := prog_4_method_1_code
def yX8_init : MethodName := ⟨RX8, "<init>", "()V"⟩
def dkwX8_init_0 : List UInt8 := [42, 183, 0, 3, 42, 187, 0, 9, 89, 183, 0, 11, 181, 0, 12, 42, 16, 6, 188, 10, 181, 0, 18, 177]
abbrev dktX8_init_0 : List UInt8 := dkwX8_init_0 ++ []
theorem dksX8_init_0 : cX8_init.data.toList.drop 0 = dktX8_init_0 := by decide +kernel
theorem dX8_init_0 : decode cX8_init 0 = .ok (.aload_n 0, 1) := dk_42 (dk_at dksX8_init_0 0 rfl rfl)
theorem dX8_init_1 : decode cX8_init 1 = .ok (.invokespecial 3, 3) := dk_183 0 3 (dk_at dksX8_init_0 1 rfl rfl)
theorem dX8_init_4 : decode cX8_init 4 = .ok (.aload_n 0, 1) := dk_42 (dk_at dksX8_init_0 4 rfl rfl)
theorem dX8_init_5 : decode cX8_init 5 = .ok (.new 9, 3) := dk_187 0 9 (dk_at dksX8_init_0 5 rfl rfl)
theorem dX8_init_8 : decode cX8_init 8 = .ok (.dup, 1) := dk_89 (dk_at dksX8_init_0 8 rfl rfl)
theorem dX8_init_9 : decode cX8_init 9 = .ok (.invokespecial 11, 3) := dk_183 0 11 (dk_at dksX8_init_0 9 rfl rfl)
theorem dX8_init_12 : decode cX8_init 12 = .ok (.putfield 12, 3) := dk_181 0 12 (dk_at dksX8_init_0 12 rfl rfl)
theorem dX8_init_15 : decode cX8_init 15 = .ok (.aload_n 0, 1) := dk_42 (dk_at dksX8_init_0 15 rfl rfl)
theorem dX8_init_16 : decode cX8_init 16 = .ok (.bipush 6, 2) := dk_16 6 (dk_at dksX8_init_0 16 rfl rfl)
theorem dX8_init_18 : decode cX8_init 18 = .ok (.newarray .int, 2) := dk_188_10 (dk_at dksX8_init_0 18 rfl rfl)
theorem dX8_init_20 : decode cX8_init 20 = .ok (.putfield 18, 3) := dk_181 0 18 (dk_at dksX8_init_0 20 rfl rfl)
theorem dX8_init_23 : decode cX8_init 23 = .ok (.return_, 1) := dk_177 (dk_at dksX8_init_0 23 rfl rfl)
abbrev cX8_run : ByteArray := prog_4_method_2_code
def yX8_run : MethodName := ⟨RX8, "run", "(LSaltedGate$Barrier;LSaltedGate$Law;ZI)I"⟩
def dkwX8_run_3 : List UInt8 := [180, 0, 18, 21, 5, 46, 184, 0, 58, 96, 181, 0, 38, 132, 5, 1, 167, 255, 206, 42, 180, 0, 34, 172]
abbrev dktX8_run_3 : List UInt8 := dkwX8_run_3 ++ []
def dkwX8_run_2 : List UInt8 := [180, 0, 18, 21, 5, 42, 43, 180, 0, 50, 21, 5, 50, 182, 0, 54, 79, 42, 89, 180, 0, 38, 3, 42]
abbrev dktX8_run_2 : List UInt8 := dkwX8_run_2 ++ dktX8_run_3
def dkwX8_run_1 : List UInt8 := [181, 0, 38, 42, 180, 0, 12, 43, 182, 0, 41, 3, 54, 5, 21, 5, 43, 180, 0, 45, 162, 0, 47, 42]
abbrev dktX8_run_1 : List UInt8 := dkwX8_run_1 ++ dktX8_run_2
def dkwX8_run_0 : List UInt8 := [42, 43, 181, 0, 22, 42, 44, 181, 0, 26, 42, 29, 181, 0, 30, 42, 21, 4, 181, 0, 34, 42, 3]
abbrev dktX8_run_0 : List UInt8 := dkwX8_run_0 ++ dktX8_run_1
theorem dksX8_run_0 : cX8_run.data.toList.drop 0 = dktX8_run_0 := by decide +kernel
theorem dksX8_run_1 : cX8_run.data.toList.drop 23 = dktX8_run_1 := dk_seg dksX8_run_0 23 rfl rfl
theorem dksX8_run_2 : cX8_run.data.toList.drop 47 = dktX8_run_2 := dk_seg dksX8_run_1 24 rfl rfl
theorem dksX8_run_3 : cX8_run.data.toList.drop 71 = dktX8_run_3 := dk_seg dksX8_run_2 24 rfl rfl
theorem dX8_run_0 : decode cX8_run 0 = .ok (.aload_n 0, 1) := dk_42 (dk_at dksX8_run_0 0 rfl rfl)
theorem dX8_run_1 : decode cX8_run 1 = .ok (.aload_n 1, 1) := dk_43 (dk_at dksX8_run_0 1 rfl rfl)
theorem dX8_run_2 : decode cX8_run 2 = .ok (.putfield 22, 3) := dk_181 0 22 (dk_at dksX8_run_0 2 rfl rfl)
theorem dX8_run_5 : decode cX8_run 5 = .ok (.aload_n 0, 1) := dk_42 (dk_at dksX8_run_0 5 rfl rfl)
theorem dX8_run_6 : decode cX8_run 6 = .ok (.aload_n 2, 1) := dk_44 (dk_at dksX8_run_0 6 rfl rfl)
theorem dX8_run_7 : decode cX8_run 7 = .ok (.putfield 26, 3) := dk_181 0 26 (dk_at dksX8_run_0 7 rfl rfl)
theorem dX8_run_10 : decode cX8_run 10 = .ok (.aload_n 0, 1) := dk_42 (dk_at dksX8_run_0 10 rfl rfl)
theorem dX8_run_11 : decode cX8_run 11 = .ok (.iload_n 3, 1) := dk_29 (dk_at dksX8_run_0 11 rfl rfl)
theorem dX8_run_12 : decode cX8_run 12 = .ok (.putfield 30, 3) := dk_181 0 30 (dk_at dksX8_run_0 12 rfl rfl)
theorem dX8_run_15 : decode cX8_run 15 = .ok (.aload_n 0, 1) := dk_42 (dk_at dksX8_run_0 15 rfl rfl)
theorem dX8_run_16 : decode cX8_run 16 = .ok (.iload 4, 2) := dk_21 4 (dk_at dksX8_run_0 16 rfl rfl)
theorem dX8_run_18 : decode cX8_run 18 = .ok (.putfield 34, 3) := dk_181 0 34 (dk_at dksX8_run_0 18 rfl rfl)
theorem dX8_run_21 : decode cX8_run 21 = .ok (.aload_n 0, 1) := dk_42 (dk_at dksX8_run_0 21 rfl rfl)
theorem dX8_run_22 : decode cX8_run 22 = .ok (.iconst 0, 1) := dk_3 (dk_at dksX8_run_0 22 rfl rfl)
theorem dX8_run_23 : decode cX8_run 23 = .ok (.putfield 38, 3) := dk_181 0 38 (dk_at dksX8_run_1 0 rfl rfl)
theorem dX8_run_26 : decode cX8_run 26 = .ok (.aload_n 0, 1) := dk_42 (dk_at dksX8_run_1 3 rfl rfl)
theorem dX8_run_27 : decode cX8_run 27 = .ok (.getfield 12, 3) := dk_180 0 12 (dk_at dksX8_run_1 4 rfl rfl)
theorem dX8_run_30 : decode cX8_run 30 = .ok (.aload_n 1, 1) := dk_43 (dk_at dksX8_run_1 7 rfl rfl)
theorem dX8_run_31 : decode cX8_run 31 = .ok (.invokevirtual 41, 3) := dk_182 0 41 (dk_at dksX8_run_1 8 rfl rfl)
theorem dX8_run_34 : decode cX8_run 34 = .ok (.iconst 0, 1) := dk_3 (dk_at dksX8_run_1 11 rfl rfl)
theorem dX8_run_35 : decode cX8_run 35 = .ok (.istore 5, 2) := dk_54 5 (dk_at dksX8_run_1 12 rfl rfl)
theorem dX8_run_37 : decode cX8_run 37 = .ok (.iload 5, 2) := dk_21 5 (dk_at dksX8_run_1 14 rfl rfl)
theorem dX8_run_39 : decode cX8_run 39 = .ok (.aload_n 1, 1) := dk_43 (dk_at dksX8_run_1 16 rfl rfl)
theorem dX8_run_40 : decode cX8_run 40 = .ok (.getfield 45, 3) := dk_180 0 45 (dk_at dksX8_run_1 17 rfl rfl)
theorem dX8_run_43 : decode cX8_run 43 = .ok (.if_icmp .ge 47, 3) := dk_162 0 47 (dk_at dksX8_run_1 20 rfl rfl)
theorem dX8_run_46 : decode cX8_run 46 = .ok (.aload_n 0, 1) := dk_42 (dk_at dksX8_run_1 23 rfl rfl)
theorem dX8_run_47 : decode cX8_run 47 = .ok (.getfield 18, 3) := dk_180 0 18 (dk_at dksX8_run_2 0 rfl rfl)
theorem dX8_run_50 : decode cX8_run 50 = .ok (.iload 5, 2) := dk_21 5 (dk_at dksX8_run_2 3 rfl rfl)
theorem dX8_run_52 : decode cX8_run 52 = .ok (.aload_n 0, 1) := dk_42 (dk_at dksX8_run_2 5 rfl rfl)
theorem dX8_run_53 : decode cX8_run 53 = .ok (.aload_n 1, 1) := dk_43 (dk_at dksX8_run_2 6 rfl rfl)
theorem dX8_run_54 : decode cX8_run 54 = .ok (.getfield 50, 3) := dk_180 0 50 (dk_at dksX8_run_2 7 rfl rfl)
theorem dX8_run_57 : decode cX8_run 57 = .ok (.iload 5, 2) := dk_21 5 (dk_at dksX8_run_2 10 rfl rfl)
theorem dX8_run_59 : decode cX8_run 59 = .ok (.aaload, 1) := dk_50 (dk_at dksX8_run_2 12 rfl rfl)
theorem dX8_run_60 : decode cX8_run 60 = .ok (.invokevirtual 54, 3) := dk_182 0 54 (dk_at dksX8_run_2 13 rfl rfl)
theorem dX8_run_63 : decode cX8_run 63 = .ok (.iastore, 1) := dk_79 (dk_at dksX8_run_2 16 rfl rfl)
theorem dX8_run_64 : decode cX8_run 64 = .ok (.aload_n 0, 1) := dk_42 (dk_at dksX8_run_2 17 rfl rfl)
theorem dX8_run_65 : decode cX8_run 65 = .ok (.dup, 1) := dk_89 (dk_at dksX8_run_2 18 rfl rfl)
theorem dX8_run_66 : decode cX8_run 66 = .ok (.getfield 38, 3) := dk_180 0 38 (dk_at dksX8_run_2 19 rfl rfl)
theorem dX8_run_69 : decode cX8_run 69 = .ok (.iconst 0, 1) := dk_3 (dk_at dksX8_run_2 22 rfl rfl)
theorem dX8_run_70 : decode cX8_run 70 = .ok (.aload_n 0, 1) := dk_42 (dk_at dksX8_run_2 23 rfl rfl)
theorem dX8_run_71 : decode cX8_run 71 = .ok (.getfield 18, 3) := dk_180 0 18 (dk_at dksX8_run_3 0 rfl rfl)
theorem dX8_run_74 : decode cX8_run 74 = .ok (.iload 5, 2) := dk_21 5 (dk_at dksX8_run_3 3 rfl rfl)
theorem dX8_run_76 : decode cX8_run 76 = .ok (.iaload, 1) := dk_46 (dk_at dksX8_run_3 5 rfl rfl)
theorem dX8_run_77 : decode cX8_run 77 = .ok (.invokestatic 58, 3) := dk_184 0 58 (dk_at dksX8_run_3 6 rfl rfl)
theorem dX8_run_80 : decode cX8_run 80 = .ok (.iadd, 1) := dk_96 (dk_at dksX8_run_3 9 rfl rfl)
theorem dX8_run_81 : decode cX8_run 81 = .ok (.putfield 38, 3) := dk_181 0 38 (dk_at dksX8_run_3 10 rfl rfl)
theorem dX8_run_84 : decode cX8_run 84 = .ok (.iinc 5 1, 3) := dk_132 5 1 (dk_at dksX8_run_3 13 rfl rfl)
theorem dX8_run_87 : decode cX8_run 87 = .ok (.goto (-50), 3) := dk_167 255 206 (dk_at dksX8_run_3 16 rfl rfl)
theorem dX8_run_90 : decode cX8_run 90 = .ok (.aload_n 0, 1) := dk_42 (dk_at dksX8_run_3 19 rfl rfl)
theorem dX8_run_91 : decode cX8_run 91 = .ok (.getfield 34, 3) := dk_180 0 34 (dk_at dksX8_run_3 20 rfl rfl)
theorem dX8_run_94 : decode cX8_run 94 = .ok (.ireturn, 1) := dk_172 (dk_at dksX8_run_3 23 rfl rfl)
abbrev cX8_crosses : ByteArray := prog_4_method_3_code
def yX8_crosses : MethodName := ⟨RX8, "crosses", "(LSaltedGate$Crossing;)I"⟩
def dkwX8_crosses_3 : List UInt8 := [180, 0, 94, 182, 0, 97, 43, 180, 0, 94, 42, 180, 0, 26, 182, 0, 101, 172]
abbrev dktX8_crosses_3 : List UInt8 := dkwX8_crosses_3 ++ []
def dkwX8_crosses_2 : List UInt8 := [153, 0, 11, 42, 43, 182, 0, 91, 167, 0, 22, 42, 180, 0, 12, 43, 180, 0, 88, 43, 180, 0, 68, 43]
abbrev dktX8_crosses_2 : List UInt8 := dkwX8_crosses_2 ++ dktX8_crosses_3
def dkwX8_crosses_1 : List UInt8 := [180, 0, 81, 184, 0, 84, 154, 0, 6, 16, 254, 172, 42, 180, 0, 12, 43, 180, 0, 88, 42, 180, 0, 30]
abbrev dktX8_crosses_1 : List UInt8 := dkwX8_crosses_1 ++ dktX8_crosses_2
def dkwX8_crosses_0 : List UInt8 := [42, 180, 0, 22, 180, 0, 64, 43, 180, 0, 68, 50, 77, 43, 180, 0, 73, 44, 180, 0, 76, 44]
abbrev dktX8_crosses_0 : List UInt8 := dkwX8_crosses_0 ++ dktX8_crosses_1
theorem dksX8_crosses_0 : cX8_crosses.data.toList.drop 0 = dktX8_crosses_0 := by decide +kernel
theorem dksX8_crosses_1 : cX8_crosses.data.toList.drop 22 = dktX8_crosses_1 := dk_seg dksX8_crosses_0 22 rfl rfl
theorem dksX8_crosses_2 : cX8_crosses.data.toList.drop 46 = dktX8_crosses_2 := dk_seg dksX8_crosses_1 24 rfl rfl
theorem dksX8_crosses_3 : cX8_crosses.data.toList.drop 70 = dktX8_crosses_3 := dk_seg dksX8_crosses_2 24 rfl rfl
theorem dX8_crosses_0 : decode cX8_crosses 0 = .ok (.aload_n 0, 1) := dk_42 (dk_at dksX8_crosses_0 0 rfl rfl)
theorem dX8_crosses_1 : decode cX8_crosses 1 = .ok (.getfield 22, 3) := dk_180 0 22 (dk_at dksX8_crosses_0 1 rfl rfl)
theorem dX8_crosses_4 : decode cX8_crosses 4 = .ok (.getfield 64, 3) := dk_180 0 64 (dk_at dksX8_crosses_0 4 rfl rfl)
theorem dX8_crosses_7 : decode cX8_crosses 7 = .ok (.aload_n 1, 1) := dk_43 (dk_at dksX8_crosses_0 7 rfl rfl)
theorem dX8_crosses_8 : decode cX8_crosses 8 = .ok (.getfield 68, 3) := dk_180 0 68 (dk_at dksX8_crosses_0 8 rfl rfl)
theorem dX8_crosses_11 : decode cX8_crosses 11 = .ok (.aaload, 1) := dk_50 (dk_at dksX8_crosses_0 11 rfl rfl)
theorem dX8_crosses_12 : decode cX8_crosses 12 = .ok (.astore_n 2, 1) := dk_77 (dk_at dksX8_crosses_0 12 rfl rfl)
theorem dX8_crosses_13 : decode cX8_crosses 13 = .ok (.aload_n 1, 1) := dk_43 (dk_at dksX8_crosses_0 13 rfl rfl)
theorem dX8_crosses_14 : decode cX8_crosses 14 = .ok (.getfield 73, 3) := dk_180 0 73 (dk_at dksX8_crosses_0 14 rfl rfl)
theorem dX8_crosses_17 : decode cX8_crosses 17 = .ok (.aload_n 2, 1) := dk_44 (dk_at dksX8_crosses_0 17 rfl rfl)
theorem dX8_crosses_18 : decode cX8_crosses 18 = .ok (.getfield 76, 3) := dk_180 0 76 (dk_at dksX8_crosses_0 18 rfl rfl)
theorem dX8_crosses_21 : decode cX8_crosses 21 = .ok (.aload_n 2, 1) := dk_44 (dk_at dksX8_crosses_0 21 rfl rfl)
theorem dX8_crosses_22 : decode cX8_crosses 22 = .ok (.getfield 81, 3) := dk_180 0 81 (dk_at dksX8_crosses_1 0 rfl rfl)
theorem dX8_crosses_25 : decode cX8_crosses 25 = .ok (.invokestatic 84, 3) := dk_184 0 84 (dk_at dksX8_crosses_1 3 rfl rfl)
theorem dX8_crosses_28 : decode cX8_crosses 28 = .ok (.ifCond .ne 6, 3) := dk_154 0 6 (dk_at dksX8_crosses_1 6 rfl rfl)
theorem dX8_crosses_31 : decode cX8_crosses 31 = .ok (.bipush (-2), 2) := dk_16 254 (dk_at dksX8_crosses_1 9 rfl rfl)
theorem dX8_crosses_33 : decode cX8_crosses 33 = .ok (.ireturn, 1) := dk_172 (dk_at dksX8_crosses_1 11 rfl rfl)
theorem dX8_crosses_34 : decode cX8_crosses 34 = .ok (.aload_n 0, 1) := dk_42 (dk_at dksX8_crosses_1 12 rfl rfl)
theorem dX8_crosses_35 : decode cX8_crosses 35 = .ok (.getfield 12, 3) := dk_180 0 12 (dk_at dksX8_crosses_1 13 rfl rfl)
theorem dX8_crosses_38 : decode cX8_crosses 38 = .ok (.aload_n 1, 1) := dk_43 (dk_at dksX8_crosses_1 16 rfl rfl)
theorem dX8_crosses_39 : decode cX8_crosses 39 = .ok (.getfield 88, 3) := dk_180 0 88 (dk_at dksX8_crosses_1 17 rfl rfl)
theorem dX8_crosses_42 : decode cX8_crosses 42 = .ok (.aload_n 0, 1) := dk_42 (dk_at dksX8_crosses_1 20 rfl rfl)
theorem dX8_crosses_43 : decode cX8_crosses 43 = .ok (.getfield 30, 3) := dk_180 0 30 (dk_at dksX8_crosses_1 21 rfl rfl)
theorem dX8_crosses_46 : decode cX8_crosses 46 = .ok (.ifCond .eq 11, 3) := dk_153 0 11 (dk_at dksX8_crosses_2 0 rfl rfl)
theorem dX8_crosses_49 : decode cX8_crosses 49 = .ok (.aload_n 0, 1) := dk_42 (dk_at dksX8_crosses_2 3 rfl rfl)
theorem dX8_crosses_50 : decode cX8_crosses 50 = .ok (.aload_n 1, 1) := dk_43 (dk_at dksX8_crosses_2 4 rfl rfl)
theorem dX8_crosses_51 : decode cX8_crosses 51 = .ok (.invokevirtual 91, 3) := dk_182 0 91 (dk_at dksX8_crosses_2 5 rfl rfl)
theorem dX8_crosses_54 : decode cX8_crosses 54 = .ok (.goto 22, 3) := dk_167 0 22 (dk_at dksX8_crosses_2 8 rfl rfl)
theorem dX8_crosses_57 : decode cX8_crosses 57 = .ok (.aload_n 0, 1) := dk_42 (dk_at dksX8_crosses_2 11 rfl rfl)
theorem dX8_crosses_58 : decode cX8_crosses 58 = .ok (.getfield 12, 3) := dk_180 0 12 (dk_at dksX8_crosses_2 12 rfl rfl)
theorem dX8_crosses_61 : decode cX8_crosses 61 = .ok (.aload_n 1, 1) := dk_43 (dk_at dksX8_crosses_2 15 rfl rfl)
theorem dX8_crosses_62 : decode cX8_crosses 62 = .ok (.getfield 88, 3) := dk_180 0 88 (dk_at dksX8_crosses_2 16 rfl rfl)
theorem dX8_crosses_65 : decode cX8_crosses 65 = .ok (.aload_n 1, 1) := dk_43 (dk_at dksX8_crosses_2 19 rfl rfl)
theorem dX8_crosses_66 : decode cX8_crosses 66 = .ok (.getfield 68, 3) := dk_180 0 68 (dk_at dksX8_crosses_2 20 rfl rfl)
theorem dX8_crosses_69 : decode cX8_crosses 69 = .ok (.aload_n 1, 1) := dk_43 (dk_at dksX8_crosses_2 23 rfl rfl)
theorem dX8_crosses_70 : decode cX8_crosses 70 = .ok (.getfield 94, 3) := dk_180 0 94 (dk_at dksX8_crosses_3 0 rfl rfl)
theorem dX8_crosses_73 : decode cX8_crosses 73 = .ok (.invokevirtual 97, 3) := dk_182 0 97 (dk_at dksX8_crosses_3 3 rfl rfl)
theorem dX8_crosses_76 : decode cX8_crosses 76 = .ok (.aload_n 1, 1) := dk_43 (dk_at dksX8_crosses_3 6 rfl rfl)
theorem dX8_crosses_77 : decode cX8_crosses 77 = .ok (.getfield 94, 3) := dk_180 0 94 (dk_at dksX8_crosses_3 7 rfl rfl)
theorem dX8_crosses_80 : decode cX8_crosses 80 = .ok (.aload_n 0, 1) := dk_42 (dk_at dksX8_crosses_3 10 rfl rfl)
theorem dX8_crosses_81 : decode cX8_crosses 81 = .ok (.getfield 26, 3) := dk_180 0 26 (dk_at dksX8_crosses_3 11 rfl rfl)
theorem dX8_crosses_84 : decode cX8_crosses 84 = .ok (.invokevirtual 101, 3) := dk_182 0 101 (dk_at dksX8_crosses_3 14 rfl rfl)
theorem dX8_crosses_87 : decode cX8_crosses 87 = .ok (.ireturn, 1) := dk_172 (dk_at dksX8_crosses_3 17 rfl rfl)
abbrev cX8_drawn : ByteArray := prog_4_method_4_code
def yX8_drawn : MethodName := ⟨RX8, "drawn", "(LSaltedGate$Crossing;)I"⟩
def dkwX8_drawn_4 : List UInt8 := [21, 4, 120, 167, 0, 4, 3, 128, 61, 132, 4, 1, 167, 255, 178, 28, 172]
abbrev dktX8_drawn_4 : List UInt8 := dkwX8_drawn_4 ++ []
def dkwX8_drawn_3 : List UInt8 := [180, 0, 34, 16, 100, 112, 42, 180, 0, 12, 21, 4, 43, 180, 0, 94, 182, 0, 118, 162, 0, 10, 4]
abbrev dktX8_drawn_3 : List UInt8 := dkwX8_drawn_3 ++ dktX8_drawn_4
def dkwX8_drawn_2 : List UInt8 := [167, 0, 54, 42, 16, 75, 42, 180, 0, 34, 104, 16, 74, 96, 18, 117, 112, 181, 0, 34, 28, 42]
abbrev dktX8_drawn_2 : List UInt8 := dkwX8_drawn_2 ++ dktX8_drawn_3
def dkwX8_drawn_1 : List UInt8 := [54, 4, 21, 4, 42, 180, 0, 22, 180, 0, 111, 162, 0, 72, 29, 21, 4, 184, 0, 114, 154, 0, 6]
abbrev dktX8_drawn_1 : List UInt8 := dkwX8_drawn_1 ++ dktX8_drawn_2
def dkwX8_drawn_0 : List UInt8 := [3, 61, 42, 180, 0, 12, 43, 180, 0, 88, 182, 0, 104, 42, 180, 0, 12, 180, 0, 108, 126, 62, 3]
abbrev dktX8_drawn_0 : List UInt8 := dkwX8_drawn_0 ++ dktX8_drawn_1
theorem dksX8_drawn_0 : cX8_drawn.data.toList.drop 0 = dktX8_drawn_0 := by decide +kernel
theorem dksX8_drawn_1 : cX8_drawn.data.toList.drop 23 = dktX8_drawn_1 := dk_seg dksX8_drawn_0 23 rfl rfl
theorem dksX8_drawn_2 : cX8_drawn.data.toList.drop 46 = dktX8_drawn_2 := dk_seg dksX8_drawn_1 23 rfl rfl
theorem dksX8_drawn_3 : cX8_drawn.data.toList.drop 68 = dktX8_drawn_3 := dk_seg dksX8_drawn_2 22 rfl rfl
theorem dksX8_drawn_4 : cX8_drawn.data.toList.drop 91 = dktX8_drawn_4 := dk_seg dksX8_drawn_3 23 rfl rfl
theorem dX8_drawn_0 : decode cX8_drawn 0 = .ok (.iconst 0, 1) := dk_3 (dk_at dksX8_drawn_0 0 rfl rfl)
theorem dX8_drawn_1 : decode cX8_drawn 1 = .ok (.istore_n 2, 1) := dk_61 (dk_at dksX8_drawn_0 1 rfl rfl)
theorem dX8_drawn_2 : decode cX8_drawn 2 = .ok (.aload_n 0, 1) := dk_42 (dk_at dksX8_drawn_0 2 rfl rfl)
theorem dX8_drawn_3 : decode cX8_drawn 3 = .ok (.getfield 12, 3) := dk_180 0 12 (dk_at dksX8_drawn_0 3 rfl rfl)
theorem dX8_drawn_6 : decode cX8_drawn 6 = .ok (.aload_n 1, 1) := dk_43 (dk_at dksX8_drawn_0 6 rfl rfl)
theorem dX8_drawn_7 : decode cX8_drawn 7 = .ok (.getfield 88, 3) := dk_180 0 88 (dk_at dksX8_drawn_0 7 rfl rfl)
theorem dX8_drawn_10 : decode cX8_drawn 10 = .ok (.invokevirtual 104, 3) := dk_182 0 104 (dk_at dksX8_drawn_0 10 rfl rfl)
theorem dX8_drawn_13 : decode cX8_drawn 13 = .ok (.aload_n 0, 1) := dk_42 (dk_at dksX8_drawn_0 13 rfl rfl)
theorem dX8_drawn_14 : decode cX8_drawn 14 = .ok (.getfield 12, 3) := dk_180 0 12 (dk_at dksX8_drawn_0 14 rfl rfl)
theorem dX8_drawn_17 : decode cX8_drawn 17 = .ok (.getfield 108, 3) := dk_180 0 108 (dk_at dksX8_drawn_0 17 rfl rfl)
theorem dX8_drawn_20 : decode cX8_drawn 20 = .ok (.iand, 1) := dk_126 (dk_at dksX8_drawn_0 20 rfl rfl)
theorem dX8_drawn_21 : decode cX8_drawn 21 = .ok (.istore_n 3, 1) := dk_62 (dk_at dksX8_drawn_0 21 rfl rfl)
theorem dX8_drawn_22 : decode cX8_drawn 22 = .ok (.iconst 0, 1) := dk_3 (dk_at dksX8_drawn_0 22 rfl rfl)
theorem dX8_drawn_23 : decode cX8_drawn 23 = .ok (.istore 4, 2) := dk_54 4 (dk_at dksX8_drawn_1 0 rfl rfl)
theorem dX8_drawn_25 : decode cX8_drawn 25 = .ok (.iload 4, 2) := dk_21 4 (dk_at dksX8_drawn_1 2 rfl rfl)
theorem dX8_drawn_27 : decode cX8_drawn 27 = .ok (.aload_n 0, 1) := dk_42 (dk_at dksX8_drawn_1 4 rfl rfl)
theorem dX8_drawn_28 : decode cX8_drawn 28 = .ok (.getfield 22, 3) := dk_180 0 22 (dk_at dksX8_drawn_1 5 rfl rfl)
theorem dX8_drawn_31 : decode cX8_drawn 31 = .ok (.getfield 111, 3) := dk_180 0 111 (dk_at dksX8_drawn_1 8 rfl rfl)
theorem dX8_drawn_34 : decode cX8_drawn 34 = .ok (.if_icmp .ge 72, 3) := dk_162 0 72 (dk_at dksX8_drawn_1 11 rfl rfl)
theorem dX8_drawn_37 : decode cX8_drawn 37 = .ok (.iload_n 3, 1) := dk_29 (dk_at dksX8_drawn_1 14 rfl rfl)
theorem dX8_drawn_38 : decode cX8_drawn 38 = .ok (.iload 4, 2) := dk_21 4 (dk_at dksX8_drawn_1 15 rfl rfl)
theorem dX8_drawn_40 : decode cX8_drawn 40 = .ok (.invokestatic 114, 3) := dk_184 0 114 (dk_at dksX8_drawn_1 17 rfl rfl)
theorem dX8_drawn_43 : decode cX8_drawn 43 = .ok (.ifCond .ne 6, 3) := dk_154 0 6 (dk_at dksX8_drawn_1 20 rfl rfl)
theorem dX8_drawn_46 : decode cX8_drawn 46 = .ok (.goto 54, 3) := dk_167 0 54 (dk_at dksX8_drawn_2 0 rfl rfl)
theorem dX8_drawn_49 : decode cX8_drawn 49 = .ok (.aload_n 0, 1) := dk_42 (dk_at dksX8_drawn_2 3 rfl rfl)
theorem dX8_drawn_50 : decode cX8_drawn 50 = .ok (.bipush 75, 2) := dk_16 75 (dk_at dksX8_drawn_2 4 rfl rfl)
theorem dX8_drawn_52 : decode cX8_drawn 52 = .ok (.aload_n 0, 1) := dk_42 (dk_at dksX8_drawn_2 6 rfl rfl)
theorem dX8_drawn_53 : decode cX8_drawn 53 = .ok (.getfield 34, 3) := dk_180 0 34 (dk_at dksX8_drawn_2 7 rfl rfl)
theorem dX8_drawn_56 : decode cX8_drawn 56 = .ok (.imul, 1) := dk_104 (dk_at dksX8_drawn_2 10 rfl rfl)
theorem dX8_drawn_57 : decode cX8_drawn 57 = .ok (.bipush 74, 2) := dk_16 74 (dk_at dksX8_drawn_2 11 rfl rfl)
theorem dX8_drawn_59 : decode cX8_drawn 59 = .ok (.iadd, 1) := dk_96 (dk_at dksX8_drawn_2 13 rfl rfl)
theorem dX8_drawn_60 : decode cX8_drawn 60 = .ok (.ldc 117, 2) := dk_18 117 (dk_at dksX8_drawn_2 14 rfl rfl)
theorem dX8_drawn_62 : decode cX8_drawn 62 = .ok (.irem, 1) := dk_112 (dk_at dksX8_drawn_2 16 rfl rfl)
theorem dX8_drawn_63 : decode cX8_drawn 63 = .ok (.putfield 34, 3) := dk_181 0 34 (dk_at dksX8_drawn_2 17 rfl rfl)
theorem dX8_drawn_66 : decode cX8_drawn 66 = .ok (.iload_n 2, 1) := dk_28 (dk_at dksX8_drawn_2 20 rfl rfl)
theorem dX8_drawn_67 : decode cX8_drawn 67 = .ok (.aload_n 0, 1) := dk_42 (dk_at dksX8_drawn_2 21 rfl rfl)
theorem dX8_drawn_68 : decode cX8_drawn 68 = .ok (.getfield 34, 3) := dk_180 0 34 (dk_at dksX8_drawn_3 0 rfl rfl)
theorem dX8_drawn_71 : decode cX8_drawn 71 = .ok (.bipush 100, 2) := dk_16 100 (dk_at dksX8_drawn_3 3 rfl rfl)
theorem dX8_drawn_73 : decode cX8_drawn 73 = .ok (.irem, 1) := dk_112 (dk_at dksX8_drawn_3 5 rfl rfl)
theorem dX8_drawn_74 : decode cX8_drawn 74 = .ok (.aload_n 0, 1) := dk_42 (dk_at dksX8_drawn_3 6 rfl rfl)
theorem dX8_drawn_75 : decode cX8_drawn 75 = .ok (.getfield 12, 3) := dk_180 0 12 (dk_at dksX8_drawn_3 7 rfl rfl)
theorem dX8_drawn_78 : decode cX8_drawn 78 = .ok (.iload 4, 2) := dk_21 4 (dk_at dksX8_drawn_3 10 rfl rfl)
theorem dX8_drawn_80 : decode cX8_drawn 80 = .ok (.aload_n 1, 1) := dk_43 (dk_at dksX8_drawn_3 12 rfl rfl)
theorem dX8_drawn_81 : decode cX8_drawn 81 = .ok (.getfield 94, 3) := dk_180 0 94 (dk_at dksX8_drawn_3 13 rfl rfl)
theorem dX8_drawn_84 : decode cX8_drawn 84 = .ok (.invokevirtual 118, 3) := dk_182 0 118 (dk_at dksX8_drawn_3 16 rfl rfl)
theorem dX8_drawn_87 : decode cX8_drawn 87 = .ok (.if_icmp .ge 10, 3) := dk_162 0 10 (dk_at dksX8_drawn_3 19 rfl rfl)
theorem dX8_drawn_90 : decode cX8_drawn 90 = .ok (.iconst 1, 1) := dk_4 (dk_at dksX8_drawn_3 22 rfl rfl)
theorem dX8_drawn_91 : decode cX8_drawn 91 = .ok (.iload 4, 2) := dk_21 4 (dk_at dksX8_drawn_4 0 rfl rfl)
theorem dX8_drawn_93 : decode cX8_drawn 93 = .ok (.ishl, 1) := dk_120 (dk_at dksX8_drawn_4 2 rfl rfl)
theorem dX8_drawn_94 : decode cX8_drawn 94 = .ok (.goto 4, 3) := dk_167 0 4 (dk_at dksX8_drawn_4 3 rfl rfl)
theorem dX8_drawn_97 : decode cX8_drawn 97 = .ok (.iconst 0, 1) := dk_3 (dk_at dksX8_drawn_4 6 rfl rfl)
theorem dX8_drawn_98 : decode cX8_drawn 98 = .ok (.ior, 1) := dk_128 (dk_at dksX8_drawn_4 7 rfl rfl)
theorem dX8_drawn_99 : decode cX8_drawn 99 = .ok (.istore_n 2, 1) := dk_61 (dk_at dksX8_drawn_4 8 rfl rfl)
theorem dX8_drawn_100 : decode cX8_drawn 100 = .ok (.iinc 4 1, 3) := dk_132 4 1 (dk_at dksX8_drawn_4 9 rfl rfl)
theorem dX8_drawn_103 : decode cX8_drawn 103 = .ok (.goto (-78), 3) := dk_167 255 178 (dk_at dksX8_drawn_4 12 rfl rfl)
theorem dX8_drawn_106 : decode cX8_drawn 106 = .ok (.iload_n 2, 1) := dk_28 (dk_at dksX8_drawn_4 15 rfl rfl)
theorem dX8_drawn_107 : decode cX8_drawn 107 = .ok (.ireturn, 1) := dk_172 (dk_at dksX8_drawn_4 16 rfl rfl)
abbrev cX8_asked : ByteArray := prog_4_method_5_code
def yX8_asked : MethodName := ⟨RX8, "asked", "(I)I"⟩
def dkwX8_asked_0 : List UInt8 := [42, 180, 0, 18, 27, 46, 172]
abbrev dktX8_asked_0 : List UInt8 := dkwX8_asked_0 ++ []
theorem dksX8_asked_0 : cX8_asked.data.toList.drop 0 = dktX8_asked_0 := by decide +kernel
theorem dX8_asked_0 : decode cX8_asked 0 = .ok (.aload_n 0, 1) := dk_42 (dk_at dksX8_asked_0 0 rfl rfl)
theorem dX8_asked_1 : decode cX8_asked 1 = .ok (.getfield 18, 3) := dk_180 0 18 (dk_at dksX8_asked_0 1 rfl rfl)
theorem dX8_asked_4 : decode cX8_asked 4 = .ok (.iload_n 1, 1) := dk_27 (dk_at dksX8_asked_0 4 rfl rfl)
theorem dX8_asked_5 : decode cX8_asked 5 = .ok (.iaload, 1) := dk_46 (dk_at dksX8_asked_0 5 rfl rfl)
theorem dX8_asked_6 : decode cX8_asked 6 = .ok (.ireturn, 1) := dk_172 (dk_at dksX8_asked_0 6 rfl rfl)
abbrev cX8_all : ByteArray := prog_4_method_7_code
def yX8_all : MethodName := ⟨RX8, "all", "(I)I"⟩
def dkwX8_all_0 : List UInt8 := [42, 180, 0, 12, 27, 182, 0, 121, 172]
abbrev dktX8_all_0 : List UInt8 := dkwX8_all_0 ++ []
theorem dksX8_all_0 : cX8_all.data.toList.drop 0 = dktX8_all_0 := by decide +kernel
theorem dX8_all_0 : decode cX8_all 0 = .ok (.aload_n 0, 1) := dk_42 (dk_at dksX8_all_0 0 rfl rfl)
theorem dX8_all_1 : decode cX8_all 1 = .ok (.getfield 12, 3) := dk_180 0 12 (dk_at dksX8_all_0 1 rfl rfl)
theorem dX8_all_4 : decode cX8_all 4 = .ok (.iload_n 1, 1) := dk_27 (dk_at dksX8_all_0 4 rfl rfl)
theorem dX8_all_5 : decode cX8_all 5 = .ok (.invokevirtual 121, 3) := dk_182 0 121 (dk_at dksX8_all_0 5 rfl rfl)
theorem dX8_all_8 : decode cX8_all 8 = .ok (.ireturn, 1) := dk_172 (dk_at dksX8_all_0 8 rfl rfl)
abbrev cX8_sum : ByteArray := prog_4_method_6_code
def yX8_sum : MethodName := ⟨RX8, "sum", "()I"⟩
theorem dX8_sum_0 : decode cX8_sum 0 = .ok (.aload_n 0, 1) := by decide +kernel
theorem dX8_sum_1 : decode cX8_sum 1 = .ok (.getfield 38, 3) := by decide +kernel
theorem dX8_sum_4 : decode cX8_sum 4 = .ok (.ireturn, 1) := by decide +kernel
theorem q130 : (Jvm.Cond.initialized "SaltedGate$Course") ∈ lw_all := lw_g (lw_at lw_m1 11 rfl) rfl
theorem q294 : (Jvm.Cond.fieldLink "SaltedGate$Course" (108 : Nat) "SaltedGate$Load" "hidden" "I") ∈ lw_all := lw_g (lw_at lw_m1 175 rfl) rfl
theorem q330 : (Jvm.Cond.instantiable "SaltedGate$Course" (7 : Nat)) ∈ lw_all := lw_g (lw_at lw_m1 211 rfl) rfl
theorem q332 : (Jvm.Cond.instanceMethod ({ cls := "SaltedGate$Course", name := "<init>", desc := "()V" } : Jvm.MethodName)) ∈ lw_all := lw_g (lw_at lw_m1 213 rfl) rfl
theorem q333 : (Jvm.Cond.code ({ cls := "SaltedGate$Course", name := "<init>", desc := "()V" } : Jvm.MethodName) prog_4_method_1_code (1 : Nat) (Option.none : Option Jvm.ClassFile.FieldType)) ∈ lw_all := lw_g (lw_at lw_m1 214 rfl) rfl
theorem q334 : (Jvm.Cond.methodLink "SaltedGate$Course" (3 : Nat) ({ cls := "java/lang/Object", name := "<init>", desc := "()V" } : Jvm.MethodName)) ∈ lw_all := lw_g (lw_at lw_m1 215 rfl) rfl
theorem q335 : (Jvm.Cond.classLink "SaltedGate$Course" (9 : Nat) "SaltedGate$Load") ∈ lw_all := lw_g (lw_at lw_m1 216 rfl) rfl
theorem q336 : (Jvm.Cond.methodLinkNest "SaltedGate$Course" (11 : Nat) ({ cls := "SaltedGate$Load", name := "<init>", desc := "()V" } : Jvm.MethodName) "SaltedGate") ∈ lw_tbl := lw_at lw_m1 217 rfl
theorem q337 : (Jvm.Cond.fieldLink "SaltedGate$Course" (12 : Nat) "SaltedGate$Course" "load" "LSaltedGate$Load;") ∈ lw_all := lw_g (lw_at lw_m1 218 rfl) rfl
theorem q338 : (Jvm.Cond.fieldLink "SaltedGate$Course" (18 : Nat) "SaltedGate$Course" "asked" "[I") ∈ lw_all := lw_g (lw_at lw_m1 219 rfl) rfl
theorem q339 : (Jvm.Cond.fieldLink "SaltedGate$Course" (22 : Nat) "SaltedGate$Course" "barrier" "LSaltedGate$Barrier;") ∈ lw_all := lw_g (lw_at lw_m1 220 rfl) rfl
theorem q340 : (Jvm.Cond.fieldLink "SaltedGate$Course" (26 : Nat) "SaltedGate$Course" "law" "LSaltedGate$Law;") ∈ lw_all := lw_g (lw_at lw_m1 221 rfl) rfl
theorem q341 : (Jvm.Cond.fieldLink "SaltedGate$Course" (34 : Nat) "SaltedGate$Course" "seed" "I") ∈ lw_all := lw_g (lw_at lw_m1 222 rfl) rfl
theorem q342 : (Jvm.Cond.fieldLink "SaltedGate$Course" (38 : Nat) "SaltedGate$Course" "sum" "I") ∈ lw_all := lw_g (lw_at lw_m1 223 rfl) rfl
theorem q343 : (Jvm.Cond.fieldLink "SaltedGate$Course" (30 : Nat) "SaltedGate$Course" "byDraws" "Z") ∈ lw_all := lw_g (lw_at lw_m1 224 rfl) rfl
theorem q344 : (Jvm.Cond.laysFinal "SaltedGate$Course" "SaltedGate$Course" "load" "LSaltedGate$Load;") ∈ lw_all := lw_g (lw_at lw_m1 225 rfl) rfl
theorem q345 : (Jvm.Cond.soleField "SaltedGate$Course" "load") ∈ lw_all := lw_g (lw_at lw_m1 226 rfl) rfl
theorem q346 : (Jvm.Cond.laysFinal "SaltedGate$Course" "SaltedGate$Course" "asked" "[I") ∈ lw_all := lw_g (lw_at lw_m1 227 rfl) rfl
theorem q347 : (Jvm.Cond.soleField "SaltedGate$Course" "asked") ∈ lw_all := lw_g (lw_at lw_m1 228 rfl) rfl
theorem q348 : (Jvm.Cond.lays "SaltedGate$Course" "SaltedGate$Course" "barrier" "LSaltedGate$Barrier;") ∈ lw_all := lw_g (lw_at lw_m1 229 rfl) rfl
theorem q349 : (Jvm.Cond.soleField "SaltedGate$Course" "barrier") ∈ lw_all := lw_g (lw_at lw_m1 230 rfl) rfl
theorem q350 : (Jvm.Cond.lays "SaltedGate$Course" "SaltedGate$Course" "law" "LSaltedGate$Law;") ∈ lw_all := lw_g (lw_at lw_m1 231 rfl) rfl
theorem q351 : (Jvm.Cond.soleField "SaltedGate$Course" "law") ∈ lw_all := lw_g (lw_at lw_m1 232 rfl) rfl
theorem q352 : (Jvm.Cond.lays "SaltedGate$Course" "SaltedGate$Course" "seed" "I") ∈ lw_all := lw_g (lw_at lw_m1 233 rfl) rfl
theorem q353 : (Jvm.Cond.soleField "SaltedGate$Course" "seed") ∈ lw_all := lw_g (lw_at lw_m1 234 rfl) rfl
theorem q354 : (Jvm.Cond.lays "SaltedGate$Course" "SaltedGate$Course" "sum" "I") ∈ lw_all := lw_g (lw_at lw_m1 235 rfl) rfl
theorem q355 : (Jvm.Cond.soleField "SaltedGate$Course" "sum") ∈ lw_all := lw_g (lw_at lw_m1 236 rfl) rfl
theorem q356 : (Jvm.Cond.lays "SaltedGate$Course" "SaltedGate$Course" "byDraws" "Z") ∈ lw_all := lw_g (lw_at lw_m1 237 rfl) rfl
theorem q357 : (Jvm.Cond.soleField "SaltedGate$Course" "byDraws") ∈ lw_all := lw_g (lw_at lw_m1 238 rfl) rfl
theorem q358 : (Jvm.Cond.superclass "SaltedGate$Course" "java/lang/Object") ∈ lw_all := lw_g (lw_at lw_m1 239 rfl) rfl
theorem q535 : (Jvm.Cond.fieldLink "SaltedGate$Course" (64 : Nat) "SaltedGate$Barrier" "gates" "[LSaltedGate$Gate;") ∈ lw_all := lw_g (lw_at lw_m2 176 rfl) rfl
theorem q545 : (Jvm.Cond.fieldLink "SaltedGate$Course" (50 : Nat) "SaltedGate$Barrier" "crossings" "[LSaltedGate$Crossing;") ∈ lw_all := lw_g (lw_at lw_m2 186 rfl) rfl
theorem q571 : (Jvm.Cond.fieldLink "SaltedGate$Course" (111 : Nat) "SaltedGate$Barrier" "goodMany" "I") ∈ lw_all := lw_g (lw_at lw_m2 212 rfl) rfl
theorem q574 : (Jvm.Cond.fieldLink "SaltedGate$Course" (45 : Nat) "SaltedGate$Barrier" "crossMany" "I") ∈ lw_all := lw_g (lw_at lw_m2 215 rfl) rfl
theorem q927 : (Jvm.Cond.fieldLink "SaltedGate$Course" (76 : Nat) "SaltedGate$Gate" "opens" "I") ∈ lw_all := lw_g (lw_at lw_m4 88 rfl) rfl
theorem q930 : (Jvm.Cond.fieldLink "SaltedGate$Course" (81 : Nat) "SaltedGate$Gate" "shuts" "I") ∈ lw_all := lw_g (lw_at lw_m4 91 rfl) rfl
theorem q1108 : (Jvm.Cond.fieldLink "SaltedGate$Course" (88 : Nat) "SaltedGate$Crossing" "who" "I") ∈ lw_all := lw_g (lw_at lw_m5 29 rfl) rfl
theorem q1110 : (Jvm.Cond.fieldLink "SaltedGate$Course" (68 : Nat) "SaltedGate$Crossing" "gate" "I") ∈ lw_all := lw_g (lw_at lw_m5 31 rfl) rfl
theorem q1112 : (Jvm.Cond.fieldLink "SaltedGate$Course" (94 : Nat) "SaltedGate$Crossing" "day" "I") ∈ lw_all := lw_g (lw_at lw_m5 33 rfl) rfl
theorem q1114 : (Jvm.Cond.fieldLink "SaltedGate$Course" (73 : Nat) "SaltedGate$Crossing" "hour" "I") ∈ lw_all := lw_g (lw_at lw_m5 35 rfl) rfl
theorem q1146 : (Jvm.Cond.instanceMethod ({ cls := "SaltedGate$Course", name := "run", desc := "(LSaltedGate$Barrier;LSaltedGate$Law;ZI)I" } : Jvm.MethodName)) ∈ lw_all := lw_g (lw_at lw_m5 67 rfl) rfl
theorem q1147 : (Jvm.Cond.selects "SaltedGate$Course" ({ cls := "SaltedGate$Course", name := "run", desc := "(LSaltedGate$Barrier;LSaltedGate$Law;ZI)I" } : Jvm.MethodName) ({ cls := "SaltedGate$Course", name := "run", desc := "(LSaltedGate$Barrier;LSaltedGate$Law;ZI)I" } : Jvm.MethodName)) ∈ lw_all := lw_g (lw_at lw_m5 68 rfl) rfl
theorem q1148 : (Jvm.Cond.code ({ cls := "SaltedGate$Course", name := "run", desc := "(LSaltedGate$Barrier;LSaltedGate$Law;ZI)I" } : Jvm.MethodName) prog_4_method_2_code (6 : Nat) (Option.some Jvm.ClassFile.FieldType.int)) ∈ lw_all := lw_g (lw_at lw_m5 69 rfl) rfl
theorem q1149 : (Jvm.Cond.methodLink "SaltedGate$Course" (41 : Nat) ({ cls := "SaltedGate$Load", name := "begin", desc := "(LSaltedGate$Barrier;)V" } : Jvm.MethodName)) ∈ lw_all := lw_g (lw_at lw_m5 70 rfl) rfl
theorem q1150 : (Jvm.Cond.methodLink "SaltedGate$Course" (54 : Nat) ({ cls := "SaltedGate$Course", name := "crosses", desc := "(LSaltedGate$Crossing;)I" } : Jvm.MethodName)) ∈ lw_all := lw_g (lw_at lw_m5 71 rfl) rfl
theorem q1151 : (Jvm.Cond.privateMethod ({ cls := "SaltedGate$Course", name := "crosses", desc := "(LSaltedGate$Crossing;)I" } : Jvm.MethodName)) ∈ lw_tbl := lw_at lw_m5 72 rfl
theorem q1152 : (Jvm.Cond.instanceMethod ({ cls := "SaltedGate$Course", name := "crosses", desc := "(LSaltedGate$Crossing;)I" } : Jvm.MethodName)) ∈ lw_all := lw_g (lw_at lw_m5 73 rfl) rfl
theorem q1153 : (Jvm.Cond.code ({ cls := "SaltedGate$Course", name := "crosses", desc := "(LSaltedGate$Crossing;)I" } : Jvm.MethodName) prog_4_method_3_code (3 : Nat) (Option.some Jvm.ClassFile.FieldType.int)) ∈ lw_all := lw_g (lw_at lw_m5 74 rfl) rfl
theorem q1154 : (Jvm.Cond.methodLinkNest "SaltedGate$Course" (84 : Nat) ({ cls := "SaltedGate", name := "in", desc := "(III)Z" } : Jvm.MethodName) "SaltedGate") ∈ lw_tbl := lw_at lw_m5 75 rfl
theorem q1155 : (Jvm.Cond.methodLink "SaltedGate$Course" (91 : Nat) ({ cls := "SaltedGate$Course", name := "drawn", desc := "(LSaltedGate$Crossing;)I" } : Jvm.MethodName)) ∈ lw_all := lw_g (lw_at lw_m5 76 rfl) rfl
theorem q1156 : (Jvm.Cond.privateMethod ({ cls := "SaltedGate$Course", name := "drawn", desc := "(LSaltedGate$Crossing;)I" } : Jvm.MethodName)) ∈ lw_tbl := lw_at lw_m5 77 rfl
theorem q1157 : (Jvm.Cond.instanceMethod ({ cls := "SaltedGate$Course", name := "drawn", desc := "(LSaltedGate$Crossing;)I" } : Jvm.MethodName)) ∈ lw_all := lw_g (lw_at lw_m5 78 rfl) rfl
theorem q1158 : (Jvm.Cond.code ({ cls := "SaltedGate$Course", name := "drawn", desc := "(LSaltedGate$Crossing;)I" } : Jvm.MethodName) prog_4_method_4_code (5 : Nat) (Option.some Jvm.ClassFile.FieldType.int)) ∈ lw_all := lw_g (lw_at lw_m5 79 rfl) rfl
theorem q1159 : (Jvm.Cond.methodLink "SaltedGate$Course" (104 : Nat) ({ cls := "SaltedGate$Load", name := "has", desc := "(I)I" } : Jvm.MethodName)) ∈ lw_all := lw_g (lw_at lw_m5 80 rfl) rfl
theorem q1163 : (Jvm.Cond.methodLinkNest "SaltedGate$Course" (114 : Nat) ({ cls := "SaltedGate", name := "has", desc := "(II)Z" } : Jvm.MethodName) "SaltedGate") ∈ lw_tbl := lw_at lw_m5 84 rfl
theorem q1166 : (Jvm.Cond.constant "SaltedGate$Course" (117 : Nat) (65537 : Int32)) ∈ lw_all := lw_g (lw_at lw_m5 87 rfl) rfl
theorem q1167 : (Jvm.Cond.methodLink "SaltedGate$Course" (118 : Nat) ({ cls := "SaltedGate$Load", name := "smell", desc := "(II)I" } : Jvm.MethodName)) ∈ lw_all := lw_g (lw_at lw_m5 88 rfl) rfl
theorem q1233 : (Jvm.Cond.methodLink "SaltedGate$Course" (97 : Nat) ({ cls := "SaltedGate$Load", name := "found", desc := "(III)I" } : Jvm.MethodName)) ∈ lw_all := lw_g (lw_at lw_m5 154 rfl) rfl
theorem q1240 : (Jvm.Cond.methodLink "SaltedGate$Course" (101 : Nat) ({ cls := "SaltedGate$Load", name := "crosses", desc := "(IIILSaltedGate$Law;)I" } : Jvm.MethodName)) ∈ lw_all := lw_g (lw_at lw_m5 161 rfl) rfl
theorem q1270 : (Jvm.Cond.methodLink "SaltedGate$Course" (58 : Nat) ({ cls := "java/lang/Math", name := "max", desc := "(II)I" } : Jvm.MethodName)) ∈ lw_all := lw_g (lw_at lw_m5 191 rfl) rfl
theorem q1576 : (Jvm.Cond.instanceMethod ({ cls := "SaltedGate$Course", name := "asked", desc := "(I)I" } : Jvm.MethodName)) ∈ lw_all := lw_g (lw_at lw_m7 17 rfl) rfl
theorem q1577 : (Jvm.Cond.selects "SaltedGate$Course" ({ cls := "SaltedGate$Course", name := "asked", desc := "(I)I" } : Jvm.MethodName) ({ cls := "SaltedGate$Course", name := "asked", desc := "(I)I" } : Jvm.MethodName)) ∈ lw_all := lw_g (lw_at lw_m7 18 rfl) rfl
theorem q1578 : (Jvm.Cond.code ({ cls := "SaltedGate$Course", name := "asked", desc := "(I)I" } : Jvm.MethodName) prog_4_method_5_code (2 : Nat) (Option.some Jvm.ClassFile.FieldType.int)) ∈ lw_all := lw_g (lw_at lw_m7 19 rfl) rfl
theorem q1588 : (Jvm.Cond.instanceMethod ({ cls := "SaltedGate$Course", name := "all", desc := "(I)I" } : Jvm.MethodName)) ∈ lw_all := lw_g (lw_at lw_m7 29 rfl) rfl
theorem q1589 : (Jvm.Cond.selects "SaltedGate$Course" ({ cls := "SaltedGate$Course", name := "all", desc := "(I)I" } : Jvm.MethodName) ({ cls := "SaltedGate$Course", name := "all", desc := "(I)I" } : Jvm.MethodName)) ∈ lw_all := lw_g (lw_at lw_m7 30 rfl) rfl
theorem q1590 : (Jvm.Cond.code ({ cls := "SaltedGate$Course", name := "all", desc := "(I)I" } : Jvm.MethodName) prog_4_method_7_code (2 : Nat) (Option.some Jvm.ClassFile.FieldType.int)) ∈ lw_all := lw_g (lw_at lw_m7 31 rfl) rfl
theorem q1591 : (Jvm.Cond.methodLink "SaltedGate$Course" (121 : Nat) ({ cls := "SaltedGate$Load", name := "all", desc := "(I)I" } : Jvm.MethodName)) ∈ lw_all := lw_g (lw_at lw_m7 32 rfl) rfl
theorem q1648 : (Jvm.Cond.instanceMethod ({ cls := "SaltedGate$Course", name := "sum", desc := "()I" } : Jvm.MethodName)) ∈ lw_all := lw_g (lw_at lw_m7 89 rfl) rfl
theorem q1649 : (Jvm.Cond.selects "SaltedGate$Course" ({ cls := "SaltedGate$Course", name := "sum", desc := "()I" } : Jvm.MethodName) ({ cls := "SaltedGate$Course", name := "sum", desc := "()I" } : Jvm.MethodName)) ∈ lw_all := lw_g (lw_at lw_m7 90 rfl) rfl
theorem q1650 : (Jvm.Cond.code ({ cls := "SaltedGate$Course", name := "sum", desc := "()I" } : Jvm.MethodName) prog_4_method_6_code (1 : Nat) (Option.some Jvm.ClassFile.FieldType.int)) ∈ lw_all := lw_g (lw_at lw_m7 91 rfl) rfl
theorem q2566 : (Jvm.Cond.castable "SaltedGate$Course" "java/lang/Object") ∈ lw_tbl := lw_at lw_m11 47 rfl
theorem in_X8 : ∀ w ∈ wsX80, w ∈ lw_all := lw_in wsX80 [344, 346, 348, 350, 352, 354, 356] (by decide +kernel) (by decide +kernel)

/-! SaltedGate$Crumbs -/
set_option maxRecDepth 100000
def RX9 : String := "SaltedGate$Crumbs"
def TX9 : u_T := fun k => match k with
  | 0 => ("SaltedGate$Crumbs", "who", "[I", true)
  | 1 => ("SaltedGate$Crumbs", "could", "[I", true)
  | 2 => ("SaltedGate$Crumbs", "always", "[I", true)
  | 3 => ("SaltedGate$Crumbs", "barrier", "LSaltedGate$Barrier;", false)
  | _ => ("SaltedGate$Crumbs", "many", "I", false)
def tyX9 : Nat → FieldType := fun k => match k with
  | 0 => .array .int
  | 1 => .array .int
  | 2 => .array .int
  | 3 => .object "SaltedGate$Barrier"
  | _ => .int
abbrev wsX90 : List Cond := u_ws RX9 TX9 5
theorem nmX9 : ∀ a, a < 5 → ∀ b, b < 5 → a ≠ b → (TX9 a).2.1 ≠ (TX9 b).2.1 := by decide +kernel
theorem tyX9_ok : ∀ k, k < 5 → parseFieldDescriptor (TX9 k).2.2.1 = some (tyX9 k) := by decide +kernel
abbrev cX9_init : ByteArray := prog_6_method_1_code
def yX9_init : MethodName := ⟨RX9, "<init>", "()V"⟩
def dkwX9_init_1 : List UInt8 := [181, 0, 18, 177]
abbrev dktX9_init_1 : List UInt8 := dkwX9_init_1 ++ []
def dkwX9_init_0 : List UInt8 := [42, 183, 0, 3, 42, 8, 188, 10, 181, 0, 9, 42, 8, 188, 10, 181, 0, 15, 42, 8, 188, 10]
abbrev dktX9_init_0 : List UInt8 := dkwX9_init_0 ++ dktX9_init_1
theorem dksX9_init_0 : cX9_init.data.toList.drop 0 = dktX9_init_0 := by decide +kernel
theorem dksX9_init_1 : cX9_init.data.toList.drop 22 = dktX9_init_1 := dk_seg dksX9_init_0 22 rfl rfl
theorem dX9_init_0 : decode cX9_init 0 = .ok (.aload_n 0, 1) := dk_42 (dk_at dksX9_init_0 0 rfl rfl)
theorem dX9_init_1 : decode cX9_init 1 = .ok (.invokespecial 3, 3) := dk_183 0 3 (dk_at dksX9_init_0 1 rfl rfl)
theorem dX9_init_4 : decode cX9_init 4 = .ok (.aload_n 0, 1) := dk_42 (dk_at dksX9_init_0 4 rfl rfl)
theorem dX9_init_5 : decode cX9_init 5 = .ok (.iconst 5, 1) := dk_8 (dk_at dksX9_init_0 5 rfl rfl)
theorem dX9_init_6 : decode cX9_init 6 = .ok (.newarray .int, 2) := dk_188_10 (dk_at dksX9_init_0 6 rfl rfl)
theorem dX9_init_8 : decode cX9_init 8 = .ok (.putfield 9, 3) := dk_181 0 9 (dk_at dksX9_init_0 8 rfl rfl)
theorem dX9_init_11 : decode cX9_init 11 = .ok (.aload_n 0, 1) := dk_42 (dk_at dksX9_init_0 11 rfl rfl)
theorem dX9_init_12 : decode cX9_init 12 = .ok (.iconst 5, 1) := dk_8 (dk_at dksX9_init_0 12 rfl rfl)
theorem dX9_init_13 : decode cX9_init 13 = .ok (.newarray .int, 2) := dk_188_10 (dk_at dksX9_init_0 13 rfl rfl)
theorem dX9_init_15 : decode cX9_init 15 = .ok (.putfield 15, 3) := dk_181 0 15 (dk_at dksX9_init_0 15 rfl rfl)
theorem dX9_init_18 : decode cX9_init 18 = .ok (.aload_n 0, 1) := dk_42 (dk_at dksX9_init_0 18 rfl rfl)
theorem dX9_init_19 : decode cX9_init 19 = .ok (.iconst 5, 1) := dk_8 (dk_at dksX9_init_0 19 rfl rfl)
theorem dX9_init_20 : decode cX9_init 20 = .ok (.newarray .int, 2) := dk_188_10 (dk_at dksX9_init_0 20 rfl rfl)
theorem dX9_init_22 : decode cX9_init 22 = .ok (.putfield 18, 3) := dk_181 0 18 (dk_at dksX9_init_1 0 rfl rfl)
theorem dX9_init_25 : decode cX9_init 25 = .ok (.return_, 1) := dk_177 (dk_at dksX9_init_1 3 rfl rfl)
abbrev cX9_seek : ByteArray := prog_6_method_2_code
def yX9_seek : MethodName := ⟨RX9, "seek", "(LSaltedGate$Barrier;)V"⟩
def dkwX9_seek_1 : List UInt8 := [42, 180, 0, 18, 28, 16, 15, 79, 132, 2, 1, 167, 255, 233, 42, 3, 182, 0, 29, 177]
abbrev dktX9_seek_1 : List UInt8 := dkwX9_seek_1 ++ []
def dkwX9_seek_0 : List UInt8 := [42, 43, 181, 0, 21, 42, 3, 181, 0, 25, 3, 61, 28, 8, 162, 0, 24, 42, 180, 0, 15, 28, 3, 79]
abbrev dktX9_seek_0 : List UInt8 := dkwX9_seek_0 ++ dktX9_seek_1
theorem dksX9_seek_0 : cX9_seek.data.toList.drop 0 = dktX9_seek_0 := by decide +kernel
theorem dksX9_seek_1 : cX9_seek.data.toList.drop 24 = dktX9_seek_1 := dk_seg dksX9_seek_0 24 rfl rfl
theorem dX9_seek_0 : decode cX9_seek 0 = .ok (.aload_n 0, 1) := dk_42 (dk_at dksX9_seek_0 0 rfl rfl)
theorem dX9_seek_1 : decode cX9_seek 1 = .ok (.aload_n 1, 1) := dk_43 (dk_at dksX9_seek_0 1 rfl rfl)
theorem dX9_seek_2 : decode cX9_seek 2 = .ok (.putfield 21, 3) := dk_181 0 21 (dk_at dksX9_seek_0 2 rfl rfl)
theorem dX9_seek_5 : decode cX9_seek 5 = .ok (.aload_n 0, 1) := dk_42 (dk_at dksX9_seek_0 5 rfl rfl)
theorem dX9_seek_6 : decode cX9_seek 6 = .ok (.iconst 0, 1) := dk_3 (dk_at dksX9_seek_0 6 rfl rfl)
theorem dX9_seek_7 : decode cX9_seek 7 = .ok (.putfield 25, 3) := dk_181 0 25 (dk_at dksX9_seek_0 7 rfl rfl)
theorem dX9_seek_10 : decode cX9_seek 10 = .ok (.iconst 0, 1) := dk_3 (dk_at dksX9_seek_0 10 rfl rfl)
theorem dX9_seek_11 : decode cX9_seek 11 = .ok (.istore_n 2, 1) := dk_61 (dk_at dksX9_seek_0 11 rfl rfl)
theorem dX9_seek_12 : decode cX9_seek 12 = .ok (.iload_n 2, 1) := dk_28 (dk_at dksX9_seek_0 12 rfl rfl)
theorem dX9_seek_13 : decode cX9_seek 13 = .ok (.iconst 5, 1) := dk_8 (dk_at dksX9_seek_0 13 rfl rfl)
theorem dX9_seek_14 : decode cX9_seek 14 = .ok (.if_icmp .ge 24, 3) := dk_162 0 24 (dk_at dksX9_seek_0 14 rfl rfl)
theorem dX9_seek_17 : decode cX9_seek 17 = .ok (.aload_n 0, 1) := dk_42 (dk_at dksX9_seek_0 17 rfl rfl)
theorem dX9_seek_18 : decode cX9_seek 18 = .ok (.getfield 15, 3) := dk_180 0 15 (dk_at dksX9_seek_0 18 rfl rfl)
theorem dX9_seek_21 : decode cX9_seek 21 = .ok (.iload_n 2, 1) := dk_28 (dk_at dksX9_seek_0 21 rfl rfl)
theorem dX9_seek_22 : decode cX9_seek 22 = .ok (.iconst 0, 1) := dk_3 (dk_at dksX9_seek_0 22 rfl rfl)
theorem dX9_seek_23 : decode cX9_seek 23 = .ok (.iastore, 1) := dk_79 (dk_at dksX9_seek_0 23 rfl rfl)
theorem dX9_seek_24 : decode cX9_seek 24 = .ok (.aload_n 0, 1) := dk_42 (dk_at dksX9_seek_1 0 rfl rfl)
theorem dX9_seek_25 : decode cX9_seek 25 = .ok (.getfield 18, 3) := dk_180 0 18 (dk_at dksX9_seek_1 1 rfl rfl)
theorem dX9_seek_28 : decode cX9_seek 28 = .ok (.iload_n 2, 1) := dk_28 (dk_at dksX9_seek_1 4 rfl rfl)
theorem dX9_seek_29 : decode cX9_seek 29 = .ok (.bipush 15, 2) := dk_16 15 (dk_at dksX9_seek_1 5 rfl rfl)
theorem dX9_seek_31 : decode cX9_seek 31 = .ok (.iastore, 1) := dk_79 (dk_at dksX9_seek_1 7 rfl rfl)
theorem dX9_seek_32 : decode cX9_seek 32 = .ok (.iinc 2 1, 3) := dk_132 2 1 (dk_at dksX9_seek_1 8 rfl rfl)
theorem dX9_seek_35 : decode cX9_seek 35 = .ok (.goto (-23), 3) := dk_167 255 233 (dk_at dksX9_seek_1 11 rfl rfl)
theorem dX9_seek_38 : decode cX9_seek 38 = .ok (.aload_n 0, 1) := dk_42 (dk_at dksX9_seek_1 14 rfl rfl)
theorem dX9_seek_39 : decode cX9_seek 39 = .ok (.iconst 0, 1) := dk_3 (dk_at dksX9_seek_1 15 rfl rfl)
theorem dX9_seek_40 : decode cX9_seek 40 = .ok (.invokevirtual 29, 3) := dk_182 0 29 (dk_at dksX9_seek_1 16 rfl rfl)
theorem dX9_seek_43 : decode cX9_seek 43 = .ok (.return_, 1) := dk_177 (dk_at dksX9_seek_1 19 rfl rfl)
abbrev cX9_tries : ByteArray := prog_6_method_4_code
def yX9_tries : MethodName := ⟨RX9, "tries", "(I)V"⟩
def dkwX9_tries_4 : List UInt8 := [42, 180, 0, 9, 27, 28, 79, 42, 27, 4, 96, 182, 0, 29, 132, 2, 1, 167, 255, 216, 177]
abbrev dktX9_tries_4 : List UInt8 := dkwX9_tries_4 ++ []
def dkwX9_tries_3 : List UInt8 := [61, 28, 42, 180, 0, 21, 180, 0, 69, 162, 0, 35, 42, 27, 28, 182, 0, 72, 154, 0, 6, 167, 0, 17]
abbrev dktX9_tries_3 : List UInt8 := dkwX9_tries_3 ++ dktX9_tries_4
def dkwX9_tries_2 : List UInt8 := [180, 0, 18, 28, 92, 46, 4, 42, 180, 0, 9, 28, 46, 120, 126, 79, 132, 2, 1, 167, 255, 214, 177, 3]
abbrev dktX9_tries_2 : List UInt8 := dkwX9_tries_2 ++ dktX9_tries_3
def dkwX9_tries_1 : List UInt8 := [27, 162, 0, 43, 42, 180, 0, 15, 28, 92, 46, 4, 42, 180, 0, 9, 28, 46, 120, 128, 79, 42]
abbrev dktX9_tries_1 : List UInt8 := dkwX9_tries_1 ++ dktX9_tries_2
def dkwX9_tries_0 : List UInt8 := [27, 42, 180, 0, 21, 180, 0, 66, 160, 0, 61, 42, 89, 180, 0, 25, 4, 96, 181, 0, 25, 3, 61, 28]
abbrev dktX9_tries_0 : List UInt8 := dkwX9_tries_0 ++ dktX9_tries_1
theorem dksX9_tries_0 : cX9_tries.data.toList.drop 0 = dktX9_tries_0 := by decide +kernel
theorem dksX9_tries_1 : cX9_tries.data.toList.drop 24 = dktX9_tries_1 := dk_seg dksX9_tries_0 24 rfl rfl
theorem dksX9_tries_2 : cX9_tries.data.toList.drop 46 = dktX9_tries_2 := dk_seg dksX9_tries_1 22 rfl rfl
theorem dksX9_tries_3 : cX9_tries.data.toList.drop 70 = dktX9_tries_3 := dk_seg dksX9_tries_2 24 rfl rfl
theorem dksX9_tries_4 : cX9_tries.data.toList.drop 94 = dktX9_tries_4 := dk_seg dksX9_tries_3 24 rfl rfl
theorem dX9_tries_0 : decode cX9_tries 0 = .ok (.iload_n 1, 1) := dk_27 (dk_at dksX9_tries_0 0 rfl rfl)
theorem dX9_tries_1 : decode cX9_tries 1 = .ok (.aload_n 0, 1) := dk_42 (dk_at dksX9_tries_0 1 rfl rfl)
theorem dX9_tries_2 : decode cX9_tries 2 = .ok (.getfield 21, 3) := dk_180 0 21 (dk_at dksX9_tries_0 2 rfl rfl)
theorem dX9_tries_5 : decode cX9_tries 5 = .ok (.getfield 66, 3) := dk_180 0 66 (dk_at dksX9_tries_0 5 rfl rfl)
theorem dX9_tries_8 : decode cX9_tries 8 = .ok (.if_icmp .ne 61, 3) := dk_160 0 61 (dk_at dksX9_tries_0 8 rfl rfl)
theorem dX9_tries_11 : decode cX9_tries 11 = .ok (.aload_n 0, 1) := dk_42 (dk_at dksX9_tries_0 11 rfl rfl)
theorem dX9_tries_12 : decode cX9_tries 12 = .ok (.dup, 1) := dk_89 (dk_at dksX9_tries_0 12 rfl rfl)
theorem dX9_tries_13 : decode cX9_tries 13 = .ok (.getfield 25, 3) := dk_180 0 25 (dk_at dksX9_tries_0 13 rfl rfl)
theorem dX9_tries_16 : decode cX9_tries 16 = .ok (.iconst 1, 1) := dk_4 (dk_at dksX9_tries_0 16 rfl rfl)
theorem dX9_tries_17 : decode cX9_tries 17 = .ok (.iadd, 1) := dk_96 (dk_at dksX9_tries_0 17 rfl rfl)
theorem dX9_tries_18 : decode cX9_tries 18 = .ok (.putfield 25, 3) := dk_181 0 25 (dk_at dksX9_tries_0 18 rfl rfl)
theorem dX9_tries_21 : decode cX9_tries 21 = .ok (.iconst 0, 1) := dk_3 (dk_at dksX9_tries_0 21 rfl rfl)
theorem dX9_tries_22 : decode cX9_tries 22 = .ok (.istore_n 2, 1) := dk_61 (dk_at dksX9_tries_0 22 rfl rfl)
theorem dX9_tries_23 : decode cX9_tries 23 = .ok (.iload_n 2, 1) := dk_28 (dk_at dksX9_tries_0 23 rfl rfl)
theorem dX9_tries_24 : decode cX9_tries 24 = .ok (.iload_n 1, 1) := dk_27 (dk_at dksX9_tries_1 0 rfl rfl)
theorem dX9_tries_25 : decode cX9_tries 25 = .ok (.if_icmp .ge 43, 3) := dk_162 0 43 (dk_at dksX9_tries_1 1 rfl rfl)
theorem dX9_tries_28 : decode cX9_tries 28 = .ok (.aload_n 0, 1) := dk_42 (dk_at dksX9_tries_1 4 rfl rfl)
theorem dX9_tries_29 : decode cX9_tries 29 = .ok (.getfield 15, 3) := dk_180 0 15 (dk_at dksX9_tries_1 5 rfl rfl)
theorem dX9_tries_32 : decode cX9_tries 32 = .ok (.iload_n 2, 1) := dk_28 (dk_at dksX9_tries_1 8 rfl rfl)
theorem dX9_tries_33 : decode cX9_tries 33 = .ok (.dup2, 1) := dk_92 (dk_at dksX9_tries_1 9 rfl rfl)
theorem dX9_tries_34 : decode cX9_tries 34 = .ok (.iaload, 1) := dk_46 (dk_at dksX9_tries_1 10 rfl rfl)
theorem dX9_tries_35 : decode cX9_tries 35 = .ok (.iconst 1, 1) := dk_4 (dk_at dksX9_tries_1 11 rfl rfl)
theorem dX9_tries_36 : decode cX9_tries 36 = .ok (.aload_n 0, 1) := dk_42 (dk_at dksX9_tries_1 12 rfl rfl)
theorem dX9_tries_37 : decode cX9_tries 37 = .ok (.getfield 9, 3) := dk_180 0 9 (dk_at dksX9_tries_1 13 rfl rfl)
theorem dX9_tries_40 : decode cX9_tries 40 = .ok (.iload_n 2, 1) := dk_28 (dk_at dksX9_tries_1 16 rfl rfl)
theorem dX9_tries_41 : decode cX9_tries 41 = .ok (.iaload, 1) := dk_46 (dk_at dksX9_tries_1 17 rfl rfl)
theorem dX9_tries_42 : decode cX9_tries 42 = .ok (.ishl, 1) := dk_120 (dk_at dksX9_tries_1 18 rfl rfl)
theorem dX9_tries_43 : decode cX9_tries 43 = .ok (.ior, 1) := dk_128 (dk_at dksX9_tries_1 19 rfl rfl)
theorem dX9_tries_44 : decode cX9_tries 44 = .ok (.iastore, 1) := dk_79 (dk_at dksX9_tries_1 20 rfl rfl)
theorem dX9_tries_45 : decode cX9_tries 45 = .ok (.aload_n 0, 1) := dk_42 (dk_at dksX9_tries_1 21 rfl rfl)
theorem dX9_tries_46 : decode cX9_tries 46 = .ok (.getfield 18, 3) := dk_180 0 18 (dk_at dksX9_tries_2 0 rfl rfl)
theorem dX9_tries_49 : decode cX9_tries 49 = .ok (.iload_n 2, 1) := dk_28 (dk_at dksX9_tries_2 3 rfl rfl)
theorem dX9_tries_50 : decode cX9_tries 50 = .ok (.dup2, 1) := dk_92 (dk_at dksX9_tries_2 4 rfl rfl)
theorem dX9_tries_51 : decode cX9_tries 51 = .ok (.iaload, 1) := dk_46 (dk_at dksX9_tries_2 5 rfl rfl)
theorem dX9_tries_52 : decode cX9_tries 52 = .ok (.iconst 1, 1) := dk_4 (dk_at dksX9_tries_2 6 rfl rfl)
theorem dX9_tries_53 : decode cX9_tries 53 = .ok (.aload_n 0, 1) := dk_42 (dk_at dksX9_tries_2 7 rfl rfl)
theorem dX9_tries_54 : decode cX9_tries 54 = .ok (.getfield 9, 3) := dk_180 0 9 (dk_at dksX9_tries_2 8 rfl rfl)
theorem dX9_tries_57 : decode cX9_tries 57 = .ok (.iload_n 2, 1) := dk_28 (dk_at dksX9_tries_2 11 rfl rfl)
theorem dX9_tries_58 : decode cX9_tries 58 = .ok (.iaload, 1) := dk_46 (dk_at dksX9_tries_2 12 rfl rfl)
theorem dX9_tries_59 : decode cX9_tries 59 = .ok (.ishl, 1) := dk_120 (dk_at dksX9_tries_2 13 rfl rfl)
theorem dX9_tries_60 : decode cX9_tries 60 = .ok (.iand, 1) := dk_126 (dk_at dksX9_tries_2 14 rfl rfl)
theorem dX9_tries_61 : decode cX9_tries 61 = .ok (.iastore, 1) := dk_79 (dk_at dksX9_tries_2 15 rfl rfl)
theorem dX9_tries_62 : decode cX9_tries 62 = .ok (.iinc 2 1, 3) := dk_132 2 1 (dk_at dksX9_tries_2 16 rfl rfl)
theorem dX9_tries_65 : decode cX9_tries 65 = .ok (.goto (-42), 3) := dk_167 255 214 (dk_at dksX9_tries_2 19 rfl rfl)
theorem dX9_tries_68 : decode cX9_tries 68 = .ok (.return_, 1) := dk_177 (dk_at dksX9_tries_2 22 rfl rfl)
theorem dX9_tries_69 : decode cX9_tries 69 = .ok (.iconst 0, 1) := dk_3 (dk_at dksX9_tries_2 23 rfl rfl)
theorem dX9_tries_70 : decode cX9_tries 70 = .ok (.istore_n 2, 1) := dk_61 (dk_at dksX9_tries_3 0 rfl rfl)
theorem dX9_tries_71 : decode cX9_tries 71 = .ok (.iload_n 2, 1) := dk_28 (dk_at dksX9_tries_3 1 rfl rfl)
theorem dX9_tries_72 : decode cX9_tries 72 = .ok (.aload_n 0, 1) := dk_42 (dk_at dksX9_tries_3 2 rfl rfl)
theorem dX9_tries_73 : decode cX9_tries 73 = .ok (.getfield 21, 3) := dk_180 0 21 (dk_at dksX9_tries_3 3 rfl rfl)
theorem dX9_tries_76 : decode cX9_tries 76 = .ok (.getfield 69, 3) := dk_180 0 69 (dk_at dksX9_tries_3 6 rfl rfl)
theorem dX9_tries_79 : decode cX9_tries 79 = .ok (.if_icmp .ge 35, 3) := dk_162 0 35 (dk_at dksX9_tries_3 9 rfl rfl)
theorem dX9_tries_82 : decode cX9_tries 82 = .ok (.aload_n 0, 1) := dk_42 (dk_at dksX9_tries_3 12 rfl rfl)
theorem dX9_tries_83 : decode cX9_tries 83 = .ok (.iload_n 1, 1) := dk_27 (dk_at dksX9_tries_3 13 rfl rfl)
theorem dX9_tries_84 : decode cX9_tries 84 = .ok (.iload_n 2, 1) := dk_28 (dk_at dksX9_tries_3 14 rfl rfl)
theorem dX9_tries_85 : decode cX9_tries 85 = .ok (.invokevirtual 72, 3) := dk_182 0 72 (dk_at dksX9_tries_3 15 rfl rfl)
theorem dX9_tries_88 : decode cX9_tries 88 = .ok (.ifCond .ne 6, 3) := dk_154 0 6 (dk_at dksX9_tries_3 18 rfl rfl)
theorem dX9_tries_91 : decode cX9_tries 91 = .ok (.goto 17, 3) := dk_167 0 17 (dk_at dksX9_tries_3 21 rfl rfl)
theorem dX9_tries_94 : decode cX9_tries 94 = .ok (.aload_n 0, 1) := dk_42 (dk_at dksX9_tries_4 0 rfl rfl)
theorem dX9_tries_95 : decode cX9_tries 95 = .ok (.getfield 9, 3) := dk_180 0 9 (dk_at dksX9_tries_4 1 rfl rfl)
theorem dX9_tries_98 : decode cX9_tries 98 = .ok (.iload_n 1, 1) := dk_27 (dk_at dksX9_tries_4 4 rfl rfl)
theorem dX9_tries_99 : decode cX9_tries 99 = .ok (.iload_n 2, 1) := dk_28 (dk_at dksX9_tries_4 5 rfl rfl)
theorem dX9_tries_100 : decode cX9_tries 100 = .ok (.iastore, 1) := dk_79 (dk_at dksX9_tries_4 6 rfl rfl)
theorem dX9_tries_101 : decode cX9_tries 101 = .ok (.aload_n 0, 1) := dk_42 (dk_at dksX9_tries_4 7 rfl rfl)
theorem dX9_tries_102 : decode cX9_tries 102 = .ok (.iload_n 1, 1) := dk_27 (dk_at dksX9_tries_4 8 rfl rfl)
theorem dX9_tries_103 : decode cX9_tries 103 = .ok (.iconst 1, 1) := dk_4 (dk_at dksX9_tries_4 9 rfl rfl)
theorem dX9_tries_104 : decode cX9_tries 104 = .ok (.iadd, 1) := dk_96 (dk_at dksX9_tries_4 10 rfl rfl)
theorem dX9_tries_105 : decode cX9_tries 105 = .ok (.invokevirtual 29, 3) := dk_182 0 29 (dk_at dksX9_tries_4 11 rfl rfl)
theorem dX9_tries_108 : decode cX9_tries 108 = .ok (.iinc 2 1, 3) := dk_132 2 1 (dk_at dksX9_tries_4 14 rfl rfl)
theorem dX9_tries_111 : decode cX9_tries 111 = .ok (.goto (-40), 3) := dk_167 255 216 (dk_at dksX9_tries_4 17 rfl rfl)
theorem dX9_tries_114 : decode cX9_tries 114 = .ok (.return_, 1) := dk_177 (dk_at dksX9_tries_4 20 rfl rfl)
abbrev cX9_can : ByteArray := prog_6_method_3_code
def yX9_can : MethodName := ⟨RX9, "can", "(II)Z"⟩
def dkwX9_can_5 : List UInt8 := [182, 0, 62, 154, 0, 5, 4, 172, 132, 3, 1, 167, 255, 175, 3, 172]
abbrev dktX9_can_5 : List UInt8 := dkwX9_can_5 ++ []
def dkwX9_can_4 : List UInt8 := [180, 0, 21, 180, 0, 59, 27, 46, 160, 0, 22, 25, 4, 42, 180, 0, 21, 180, 0, 33, 27, 46]
abbrev dktX9_can_4 : List UInt8 := dkwX9_can_4 ++ dktX9_can_5
def dkwX9_can_3 : List UInt8 := [180, 0, 45, 28, 160, 0, 50, 25, 4, 182, 0, 50, 198, 0, 42, 25, 4, 182, 0, 50, 180, 0, 54, 42]
abbrev dktX9_can_3 : List UInt8 := dkwX9_can_3 ++ dktX9_can_4
def dkwX9_can_2 : List UInt8 := [29, 42, 180, 0, 21, 180, 0, 38, 162, 0, 76, 42, 180, 0, 21, 180, 0, 41, 29, 50, 58, 4, 25, 4]
abbrev dktX9_can_2 : List UInt8 := dkwX9_can_2 ++ dktX9_can_3
def dkwX9_can_1 : List UInt8 := [29, 46, 42, 180, 0, 21, 180, 0, 33, 27, 46, 160, 0, 5, 3, 172, 132, 3, 1, 167, 255, 215, 3, 62]
abbrev dktX9_can_1 : List UInt8 := dkwX9_can_1 ++ dktX9_can_2
def dkwX9_can_0 : List UInt8 := [3, 62, 29, 27, 162, 0, 42, 42, 180, 0, 9, 29, 46, 28, 160, 0, 26, 42, 180, 0, 21, 180, 0, 33]
abbrev dktX9_can_0 : List UInt8 := dkwX9_can_0 ++ dktX9_can_1
theorem dksX9_can_0 : cX9_can.data.toList.drop 0 = dktX9_can_0 := by decide +kernel
theorem dksX9_can_1 : cX9_can.data.toList.drop 24 = dktX9_can_1 := dk_seg dksX9_can_0 24 rfl rfl
theorem dksX9_can_2 : cX9_can.data.toList.drop 48 = dktX9_can_2 := dk_seg dksX9_can_1 24 rfl rfl
theorem dksX9_can_3 : cX9_can.data.toList.drop 72 = dktX9_can_3 := dk_seg dksX9_can_2 24 rfl rfl
theorem dksX9_can_4 : cX9_can.data.toList.drop 96 = dktX9_can_4 := dk_seg dksX9_can_3 24 rfl rfl
theorem dksX9_can_5 : cX9_can.data.toList.drop 118 = dktX9_can_5 := dk_seg dksX9_can_4 22 rfl rfl
theorem dX9_can_0 : decode cX9_can 0 = .ok (.iconst 0, 1) := dk_3 (dk_at dksX9_can_0 0 rfl rfl)
theorem dX9_can_1 : decode cX9_can 1 = .ok (.istore_n 3, 1) := dk_62 (dk_at dksX9_can_0 1 rfl rfl)
theorem dX9_can_2 : decode cX9_can 2 = .ok (.iload_n 3, 1) := dk_29 (dk_at dksX9_can_0 2 rfl rfl)
theorem dX9_can_3 : decode cX9_can 3 = .ok (.iload_n 1, 1) := dk_27 (dk_at dksX9_can_0 3 rfl rfl)
theorem dX9_can_4 : decode cX9_can 4 = .ok (.if_icmp .ge 42, 3) := dk_162 0 42 (dk_at dksX9_can_0 4 rfl rfl)
theorem dX9_can_7 : decode cX9_can 7 = .ok (.aload_n 0, 1) := dk_42 (dk_at dksX9_can_0 7 rfl rfl)
theorem dX9_can_8 : decode cX9_can 8 = .ok (.getfield 9, 3) := dk_180 0 9 (dk_at dksX9_can_0 8 rfl rfl)
theorem dX9_can_11 : decode cX9_can 11 = .ok (.iload_n 3, 1) := dk_29 (dk_at dksX9_can_0 11 rfl rfl)
theorem dX9_can_12 : decode cX9_can 12 = .ok (.iaload, 1) := dk_46 (dk_at dksX9_can_0 12 rfl rfl)
theorem dX9_can_13 : decode cX9_can 13 = .ok (.iload_n 2, 1) := dk_28 (dk_at dksX9_can_0 13 rfl rfl)
theorem dX9_can_14 : decode cX9_can 14 = .ok (.if_icmp .ne 26, 3) := dk_160 0 26 (dk_at dksX9_can_0 14 rfl rfl)
theorem dX9_can_17 : decode cX9_can 17 = .ok (.aload_n 0, 1) := dk_42 (dk_at dksX9_can_0 17 rfl rfl)
theorem dX9_can_18 : decode cX9_can 18 = .ok (.getfield 21, 3) := dk_180 0 21 (dk_at dksX9_can_0 18 rfl rfl)
theorem dX9_can_21 : decode cX9_can 21 = .ok (.getfield 33, 3) := dk_180 0 33 (dk_at dksX9_can_0 21 rfl rfl)
theorem dX9_can_24 : decode cX9_can 24 = .ok (.iload_n 3, 1) := dk_29 (dk_at dksX9_can_1 0 rfl rfl)
theorem dX9_can_25 : decode cX9_can 25 = .ok (.iaload, 1) := dk_46 (dk_at dksX9_can_1 1 rfl rfl)
theorem dX9_can_26 : decode cX9_can 26 = .ok (.aload_n 0, 1) := dk_42 (dk_at dksX9_can_1 2 rfl rfl)
theorem dX9_can_27 : decode cX9_can 27 = .ok (.getfield 21, 3) := dk_180 0 21 (dk_at dksX9_can_1 3 rfl rfl)
theorem dX9_can_30 : decode cX9_can 30 = .ok (.getfield 33, 3) := dk_180 0 33 (dk_at dksX9_can_1 6 rfl rfl)
theorem dX9_can_33 : decode cX9_can 33 = .ok (.iload_n 1, 1) := dk_27 (dk_at dksX9_can_1 9 rfl rfl)
theorem dX9_can_34 : decode cX9_can 34 = .ok (.iaload, 1) := dk_46 (dk_at dksX9_can_1 10 rfl rfl)
theorem dX9_can_35 : decode cX9_can 35 = .ok (.if_icmp .ne 5, 3) := dk_160 0 5 (dk_at dksX9_can_1 11 rfl rfl)
theorem dX9_can_38 : decode cX9_can 38 = .ok (.iconst 0, 1) := dk_3 (dk_at dksX9_can_1 14 rfl rfl)
theorem dX9_can_39 : decode cX9_can 39 = .ok (.ireturn, 1) := dk_172 (dk_at dksX9_can_1 15 rfl rfl)
theorem dX9_can_40 : decode cX9_can 40 = .ok (.iinc 3 1, 3) := dk_132 3 1 (dk_at dksX9_can_1 16 rfl rfl)
theorem dX9_can_43 : decode cX9_can 43 = .ok (.goto (-41), 3) := dk_167 255 215 (dk_at dksX9_can_1 19 rfl rfl)
theorem dX9_can_46 : decode cX9_can 46 = .ok (.iconst 0, 1) := dk_3 (dk_at dksX9_can_1 22 rfl rfl)
theorem dX9_can_47 : decode cX9_can 47 = .ok (.istore_n 3, 1) := dk_62 (dk_at dksX9_can_1 23 rfl rfl)
theorem dX9_can_48 : decode cX9_can 48 = .ok (.iload_n 3, 1) := dk_29 (dk_at dksX9_can_2 0 rfl rfl)
theorem dX9_can_49 : decode cX9_can 49 = .ok (.aload_n 0, 1) := dk_42 (dk_at dksX9_can_2 1 rfl rfl)
theorem dX9_can_50 : decode cX9_can 50 = .ok (.getfield 21, 3) := dk_180 0 21 (dk_at dksX9_can_2 2 rfl rfl)
theorem dX9_can_53 : decode cX9_can 53 = .ok (.getfield 38, 3) := dk_180 0 38 (dk_at dksX9_can_2 5 rfl rfl)
theorem dX9_can_56 : decode cX9_can 56 = .ok (.if_icmp .ge 76, 3) := dk_162 0 76 (dk_at dksX9_can_2 8 rfl rfl)
theorem dX9_can_59 : decode cX9_can 59 = .ok (.aload_n 0, 1) := dk_42 (dk_at dksX9_can_2 11 rfl rfl)
theorem dX9_can_60 : decode cX9_can 60 = .ok (.getfield 21, 3) := dk_180 0 21 (dk_at dksX9_can_2 12 rfl rfl)
theorem dX9_can_63 : decode cX9_can 63 = .ok (.getfield 41, 3) := dk_180 0 41 (dk_at dksX9_can_2 15 rfl rfl)
theorem dX9_can_66 : decode cX9_can 66 = .ok (.iload_n 3, 1) := dk_29 (dk_at dksX9_can_2 18 rfl rfl)
theorem dX9_can_67 : decode cX9_can 67 = .ok (.aaload, 1) := dk_50 (dk_at dksX9_can_2 19 rfl rfl)
theorem dX9_can_68 : decode cX9_can 68 = .ok (.astore 4, 2) := dk_58 4 (dk_at dksX9_can_2 20 rfl rfl)
theorem dX9_can_70 : decode cX9_can 70 = .ok (.aload 4, 2) := dk_25 4 (dk_at dksX9_can_2 22 rfl rfl)
theorem dX9_can_72 : decode cX9_can 72 = .ok (.getfield 45, 3) := dk_180 0 45 (dk_at dksX9_can_3 0 rfl rfl)
theorem dX9_can_75 : decode cX9_can 75 = .ok (.iload_n 2, 1) := dk_28 (dk_at dksX9_can_3 3 rfl rfl)
theorem dX9_can_76 : decode cX9_can 76 = .ok (.if_icmp .ne 50, 3) := dk_160 0 50 (dk_at dksX9_can_3 4 rfl rfl)
theorem dX9_can_79 : decode cX9_can 79 = .ok (.aload 4, 2) := dk_25 4 (dk_at dksX9_can_3 7 rfl rfl)
theorem dX9_can_81 : decode cX9_can 81 = .ok (.invokevirtual 50, 3) := dk_182 0 50 (dk_at dksX9_can_3 9 rfl rfl)
theorem dX9_can_84 : decode cX9_can 84 = .ok (.ifnull 42, 3) := dk_198 0 42 (dk_at dksX9_can_3 12 rfl rfl)
theorem dX9_can_87 : decode cX9_can 87 = .ok (.aload 4, 2) := dk_25 4 (dk_at dksX9_can_3 15 rfl rfl)
theorem dX9_can_89 : decode cX9_can 89 = .ok (.invokevirtual 50, 3) := dk_182 0 50 (dk_at dksX9_can_3 17 rfl rfl)
theorem dX9_can_92 : decode cX9_can 92 = .ok (.getfield 54, 3) := dk_180 0 54 (dk_at dksX9_can_3 20 rfl rfl)
theorem dX9_can_95 : decode cX9_can 95 = .ok (.aload_n 0, 1) := dk_42 (dk_at dksX9_can_3 23 rfl rfl)
theorem dX9_can_96 : decode cX9_can 96 = .ok (.getfield 21, 3) := dk_180 0 21 (dk_at dksX9_can_4 0 rfl rfl)
theorem dX9_can_99 : decode cX9_can 99 = .ok (.getfield 59, 3) := dk_180 0 59 (dk_at dksX9_can_4 3 rfl rfl)
theorem dX9_can_102 : decode cX9_can 102 = .ok (.iload_n 1, 1) := dk_27 (dk_at dksX9_can_4 6 rfl rfl)
theorem dX9_can_103 : decode cX9_can 103 = .ok (.iaload, 1) := dk_46 (dk_at dksX9_can_4 7 rfl rfl)
theorem dX9_can_104 : decode cX9_can 104 = .ok (.if_icmp .ne 22, 3) := dk_160 0 22 (dk_at dksX9_can_4 8 rfl rfl)
theorem dX9_can_107 : decode cX9_can 107 = .ok (.aload 4, 2) := dk_25 4 (dk_at dksX9_can_4 11 rfl rfl)
theorem dX9_can_109 : decode cX9_can 109 = .ok (.aload_n 0, 1) := dk_42 (dk_at dksX9_can_4 13 rfl rfl)
theorem dX9_can_110 : decode cX9_can 110 = .ok (.getfield 21, 3) := dk_180 0 21 (dk_at dksX9_can_4 14 rfl rfl)
theorem dX9_can_113 : decode cX9_can 113 = .ok (.getfield 33, 3) := dk_180 0 33 (dk_at dksX9_can_4 17 rfl rfl)
theorem dX9_can_116 : decode cX9_can 116 = .ok (.iload_n 1, 1) := dk_27 (dk_at dksX9_can_4 20 rfl rfl)
theorem dX9_can_117 : decode cX9_can 117 = .ok (.iaload, 1) := dk_46 (dk_at dksX9_can_4 21 rfl rfl)
theorem dX9_can_118 : decode cX9_can 118 = .ok (.invokevirtual 62, 3) := dk_182 0 62 (dk_at dksX9_can_5 0 rfl rfl)
theorem dX9_can_121 : decode cX9_can 121 = .ok (.ifCond .ne 5, 3) := dk_154 0 5 (dk_at dksX9_can_5 3 rfl rfl)
theorem dX9_can_124 : decode cX9_can 124 = .ok (.iconst 1, 1) := dk_4 (dk_at dksX9_can_5 6 rfl rfl)
theorem dX9_can_125 : decode cX9_can 125 = .ok (.ireturn, 1) := dk_172 (dk_at dksX9_can_5 7 rfl rfl)
theorem dX9_can_126 : decode cX9_can 126 = .ok (.iinc 3 1, 3) := dk_132 3 1 (dk_at dksX9_can_5 8 rfl rfl)
theorem dX9_can_129 : decode cX9_can 129 = .ok (.goto (-81), 3) := dk_167 255 175 (dk_at dksX9_can_5 11 rfl rfl)
theorem dX9_can_132 : decode cX9_can 132 = .ok (.iconst 0, 1) := dk_3 (dk_at dksX9_can_5 14 rfl rfl)
theorem dX9_can_133 : decode cX9_can 133 = .ok (.ireturn, 1) := dk_172 (dk_at dksX9_can_5 15 rfl rfl)
abbrev cX9_could : ByteArray := prog_6_method_5_code
def yX9_could : MethodName := ⟨RX9, "could", "(I)I"⟩
def dkwX9_could_0 : List UInt8 := [42, 180, 0, 15, 27, 46, 172]
abbrev dktX9_could_0 : List UInt8 := dkwX9_could_0 ++ []
theorem dksX9_could_0 : cX9_could.data.toList.drop 0 = dktX9_could_0 := by decide +kernel
theorem dX9_could_0 : decode cX9_could 0 = .ok (.aload_n 0, 1) := dk_42 (dk_at dksX9_could_0 0 rfl rfl)
theorem dX9_could_1 : decode cX9_could 1 = .ok (.getfield 15, 3) := dk_180 0 15 (dk_at dksX9_could_0 1 rfl rfl)
theorem dX9_could_4 : decode cX9_could 4 = .ok (.iload_n 1, 1) := dk_27 (dk_at dksX9_could_0 4 rfl rfl)
theorem dX9_could_5 : decode cX9_could 5 = .ok (.iaload, 1) := dk_46 (dk_at dksX9_could_0 5 rfl rfl)
theorem dX9_could_6 : decode cX9_could 6 = .ok (.ireturn, 1) := dk_172 (dk_at dksX9_could_0 6 rfl rfl)
abbrev cX9_surely : ByteArray := prog_6_method_6_code
def yX9_surely : MethodName := ⟨RX9, "surely", "(I)I"⟩
def dkwX9_surely_1 : List UInt8 := [27, 46, 28, 184, 0, 76, 153, 0, 5, 28, 172, 132, 2, 1, 167, 255, 220, 16, 254, 172]
abbrev dktX9_surely_1 : List UInt8 := dkwX9_surely_1 ++ []
def dkwX9_surely_0 : List UInt8 := [3, 61, 28, 42, 180, 0, 21, 180, 0, 69, 162, 0, 31, 42, 180, 0, 25, 158, 0, 24, 42, 180, 0, 18]
abbrev dktX9_surely_0 : List UInt8 := dkwX9_surely_0 ++ dktX9_surely_1
theorem dksX9_surely_0 : cX9_surely.data.toList.drop 0 = dktX9_surely_0 := by decide +kernel
theorem dksX9_surely_1 : cX9_surely.data.toList.drop 24 = dktX9_surely_1 := dk_seg dksX9_surely_0 24 rfl rfl
theorem dX9_surely_0 : decode cX9_surely 0 = .ok (.iconst 0, 1) := dk_3 (dk_at dksX9_surely_0 0 rfl rfl)
theorem dX9_surely_1 : decode cX9_surely 1 = .ok (.istore_n 2, 1) := dk_61 (dk_at dksX9_surely_0 1 rfl rfl)
theorem dX9_surely_2 : decode cX9_surely 2 = .ok (.iload_n 2, 1) := dk_28 (dk_at dksX9_surely_0 2 rfl rfl)
theorem dX9_surely_3 : decode cX9_surely 3 = .ok (.aload_n 0, 1) := dk_42 (dk_at dksX9_surely_0 3 rfl rfl)
theorem dX9_surely_4 : decode cX9_surely 4 = .ok (.getfield 21, 3) := dk_180 0 21 (dk_at dksX9_surely_0 4 rfl rfl)
theorem dX9_surely_7 : decode cX9_surely 7 = .ok (.getfield 69, 3) := dk_180 0 69 (dk_at dksX9_surely_0 7 rfl rfl)
theorem dX9_surely_10 : decode cX9_surely 10 = .ok (.if_icmp .ge 31, 3) := dk_162 0 31 (dk_at dksX9_surely_0 10 rfl rfl)
theorem dX9_surely_13 : decode cX9_surely 13 = .ok (.aload_n 0, 1) := dk_42 (dk_at dksX9_surely_0 13 rfl rfl)
theorem dX9_surely_14 : decode cX9_surely 14 = .ok (.getfield 25, 3) := dk_180 0 25 (dk_at dksX9_surely_0 14 rfl rfl)
theorem dX9_surely_17 : decode cX9_surely 17 = .ok (.ifCond .le 24, 3) := dk_158 0 24 (dk_at dksX9_surely_0 17 rfl rfl)
theorem dX9_surely_20 : decode cX9_surely 20 = .ok (.aload_n 0, 1) := dk_42 (dk_at dksX9_surely_0 20 rfl rfl)
theorem dX9_surely_21 : decode cX9_surely 21 = .ok (.getfield 18, 3) := dk_180 0 18 (dk_at dksX9_surely_0 21 rfl rfl)
theorem dX9_surely_24 : decode cX9_surely 24 = .ok (.iload_n 1, 1) := dk_27 (dk_at dksX9_surely_1 0 rfl rfl)
theorem dX9_surely_25 : decode cX9_surely 25 = .ok (.iaload, 1) := dk_46 (dk_at dksX9_surely_1 1 rfl rfl)
theorem dX9_surely_26 : decode cX9_surely 26 = .ok (.iload_n 2, 1) := dk_28 (dk_at dksX9_surely_1 2 rfl rfl)
theorem dX9_surely_27 : decode cX9_surely 27 = .ok (.invokestatic 76, 3) := dk_184 0 76 (dk_at dksX9_surely_1 3 rfl rfl)
theorem dX9_surely_30 : decode cX9_surely 30 = .ok (.ifCond .eq 5, 3) := dk_153 0 5 (dk_at dksX9_surely_1 6 rfl rfl)
theorem dX9_surely_33 : decode cX9_surely 33 = .ok (.iload_n 2, 1) := dk_28 (dk_at dksX9_surely_1 9 rfl rfl)
theorem dX9_surely_34 : decode cX9_surely 34 = .ok (.ireturn, 1) := dk_172 (dk_at dksX9_surely_1 10 rfl rfl)
theorem dX9_surely_35 : decode cX9_surely 35 = .ok (.iinc 2 1, 3) := dk_132 2 1 (dk_at dksX9_surely_1 11 rfl rfl)
theorem dX9_surely_38 : decode cX9_surely 38 = .ok (.goto (-36), 3) := dk_167 255 220 (dk_at dksX9_surely_1 14 rfl rfl)
theorem dX9_surely_41 : decode cX9_surely 41 = .ok (.bipush (-2), 2) := dk_16 254 (dk_at dksX9_surely_1 17 rfl rfl)
theorem dX9_surely_43 : decode cX9_surely 43 = .ok (.ireturn, 1) := dk_172 (dk_at dksX9_surely_1 19 rfl rfl)
theorem q131 : (Jvm.Cond.initialized "SaltedGate$Crumbs") ∈ lw_all := lw_g (lw_at lw_m1 12 rfl) rfl
theorem q360 : (Jvm.Cond.instantiable "SaltedGate$Crumbs" (5 : Nat)) ∈ lw_all := lw_g (lw_at lw_m2 1 rfl) rfl
theorem q362 : (Jvm.Cond.instanceMethod ({ cls := "SaltedGate$Crumbs", name := "<init>", desc := "()V" } : Jvm.MethodName)) ∈ lw_all := lw_g (lw_at lw_m2 3 rfl) rfl
theorem q363 : (Jvm.Cond.code ({ cls := "SaltedGate$Crumbs", name := "<init>", desc := "()V" } : Jvm.MethodName) prog_6_method_1_code (1 : Nat) (Option.none : Option Jvm.ClassFile.FieldType)) ∈ lw_all := lw_g (lw_at lw_m2 4 rfl) rfl
theorem q364 : (Jvm.Cond.methodLink "SaltedGate$Crumbs" (3 : Nat) ({ cls := "java/lang/Object", name := "<init>", desc := "()V" } : Jvm.MethodName)) ∈ lw_all := lw_g (lw_at lw_m2 5 rfl) rfl
theorem q365 : (Jvm.Cond.fieldLink "SaltedGate$Crumbs" (9 : Nat) "SaltedGate$Crumbs" "who" "[I") ∈ lw_all := lw_g (lw_at lw_m2 6 rfl) rfl
theorem q366 : (Jvm.Cond.fieldLink "SaltedGate$Crumbs" (15 : Nat) "SaltedGate$Crumbs" "could" "[I") ∈ lw_all := lw_g (lw_at lw_m2 7 rfl) rfl
theorem q367 : (Jvm.Cond.fieldLink "SaltedGate$Crumbs" (18 : Nat) "SaltedGate$Crumbs" "always" "[I") ∈ lw_all := lw_g (lw_at lw_m2 8 rfl) rfl
theorem q368 : (Jvm.Cond.fieldLink "SaltedGate$Crumbs" (21 : Nat) "SaltedGate$Crumbs" "barrier" "LSaltedGate$Barrier;") ∈ lw_all := lw_g (lw_at lw_m2 9 rfl) rfl
theorem q369 : (Jvm.Cond.fieldLink "SaltedGate$Crumbs" (25 : Nat) "SaltedGate$Crumbs" "many" "I") ∈ lw_all := lw_g (lw_at lw_m2 10 rfl) rfl
theorem q371 : (Jvm.Cond.laysFinal "SaltedGate$Crumbs" "SaltedGate$Crumbs" "who" "[I") ∈ lw_all := lw_g (lw_at lw_m2 12 rfl) rfl
theorem q372 : (Jvm.Cond.soleField "SaltedGate$Crumbs" "who") ∈ lw_all := lw_g (lw_at lw_m2 13 rfl) rfl
theorem q373 : (Jvm.Cond.laysFinal "SaltedGate$Crumbs" "SaltedGate$Crumbs" "could" "[I") ∈ lw_all := lw_g (lw_at lw_m2 14 rfl) rfl
theorem q374 : (Jvm.Cond.soleField "SaltedGate$Crumbs" "could") ∈ lw_all := lw_g (lw_at lw_m2 15 rfl) rfl
theorem q375 : (Jvm.Cond.laysFinal "SaltedGate$Crumbs" "SaltedGate$Crumbs" "always" "[I") ∈ lw_all := lw_g (lw_at lw_m2 16 rfl) rfl
theorem q376 : (Jvm.Cond.soleField "SaltedGate$Crumbs" "always") ∈ lw_all := lw_g (lw_at lw_m2 17 rfl) rfl
theorem q377 : (Jvm.Cond.lays "SaltedGate$Crumbs" "SaltedGate$Crumbs" "barrier" "LSaltedGate$Barrier;") ∈ lw_all := lw_g (lw_at lw_m2 18 rfl) rfl
theorem q378 : (Jvm.Cond.soleField "SaltedGate$Crumbs" "barrier") ∈ lw_all := lw_g (lw_at lw_m2 19 rfl) rfl
theorem q379 : (Jvm.Cond.lays "SaltedGate$Crumbs" "SaltedGate$Crumbs" "many" "I") ∈ lw_all := lw_g (lw_at lw_m2 20 rfl) rfl
theorem q380 : (Jvm.Cond.soleField "SaltedGate$Crumbs" "many") ∈ lw_all := lw_g (lw_at lw_m2 21 rfl) rfl
theorem q381 : (Jvm.Cond.superclass "SaltedGate$Crumbs" "java/lang/Object") ∈ lw_all := lw_g (lw_at lw_m2 22 rfl) rfl
theorem q541 : (Jvm.Cond.fieldLink "SaltedGate$Crumbs" (41 : Nat) "SaltedGate$Barrier" "goods" "[LSaltedGate$Good;") ∈ lw_all := lw_g (lw_at lw_m2 182 rfl) rfl
theorem q548 : (Jvm.Cond.fieldLink "SaltedGate$Crumbs" (59 : Nat) "SaltedGate$Barrier" "crumbs" "[I") ∈ lw_all := lw_g (lw_at lw_m2 189 rfl) rfl
theorem q551 : (Jvm.Cond.fieldLink "SaltedGate$Crumbs" (33 : Nat) "SaltedGate$Barrier" "crumbDays" "[I") ∈ lw_all := lw_g (lw_at lw_m2 192 rfl) rfl
theorem q561 : (Jvm.Cond.fieldLink "SaltedGate$Crumbs" (69 : Nat) "SaltedGate$Barrier" "personMany" "I") ∈ lw_all := lw_g (lw_at lw_m2 202 rfl) rfl
theorem q569 : (Jvm.Cond.fieldLink "SaltedGate$Crumbs" (38 : Nat) "SaltedGate$Barrier" "goodMany" "I") ∈ lw_all := lw_g (lw_at lw_m2 210 rfl) rfl
theorem q579 : (Jvm.Cond.fieldLink "SaltedGate$Crumbs" (66 : Nat) "SaltedGate$Barrier" "crumbMany" "I") ∈ lw_all := lw_g (lw_at lw_m2 220 rfl) rfl
theorem q865 : (Jvm.Cond.fieldLink "SaltedGate$Crumbs" (54 : Nat) "SaltedGate$Means" "number" "I") ∈ lw_all := lw_g (lw_at lw_m4 26 rfl) rfl
theorem q962 : (Jvm.Cond.fieldLink "SaltedGate$Crumbs" (45 : Nat) "SaltedGate$Good" "whose" "I") ∈ lw_all := lw_g (lw_at lw_m4 123 rfl) rfl
theorem q1600 : (Jvm.Cond.instanceMethod ({ cls := "SaltedGate$Crumbs", name := "seek", desc := "(LSaltedGate$Barrier;)V" } : Jvm.MethodName)) ∈ lw_all := lw_g (lw_at lw_m7 41 rfl) rfl
theorem q1601 : (Jvm.Cond.selects "SaltedGate$Crumbs" ({ cls := "SaltedGate$Crumbs", name := "seek", desc := "(LSaltedGate$Barrier;)V" } : Jvm.MethodName) ({ cls := "SaltedGate$Crumbs", name := "seek", desc := "(LSaltedGate$Barrier;)V" } : Jvm.MethodName)) ∈ lw_all := lw_g (lw_at lw_m7 42 rfl) rfl
theorem q1602 : (Jvm.Cond.code ({ cls := "SaltedGate$Crumbs", name := "seek", desc := "(LSaltedGate$Barrier;)V" } : Jvm.MethodName) prog_6_method_2_code (3 : Nat) (Option.none : Option Jvm.ClassFile.FieldType)) ∈ lw_all := lw_g (lw_at lw_m7 43 rfl) rfl
theorem q1603 : (Jvm.Cond.methodLink "SaltedGate$Crumbs" (29 : Nat) ({ cls := "SaltedGate$Crumbs", name := "tries", desc := "(I)V" } : Jvm.MethodName)) ∈ lw_all := lw_g (lw_at lw_m7 44 rfl) rfl
theorem q1604 : (Jvm.Cond.privateMethod ({ cls := "SaltedGate$Crumbs", name := "tries", desc := "(I)V" } : Jvm.MethodName)) ∈ lw_tbl := lw_at lw_m7 45 rfl
theorem q1605 : (Jvm.Cond.instanceMethod ({ cls := "SaltedGate$Crumbs", name := "tries", desc := "(I)V" } : Jvm.MethodName)) ∈ lw_all := lw_g (lw_at lw_m7 46 rfl) rfl
theorem q1606 : (Jvm.Cond.code ({ cls := "SaltedGate$Crumbs", name := "tries", desc := "(I)V" } : Jvm.MethodName) prog_6_method_4_code (3 : Nat) (Option.none : Option Jvm.ClassFile.FieldType)) ∈ lw_all := lw_g (lw_at lw_m7 47 rfl) rfl
theorem q1607 : (Jvm.Cond.methodLink "SaltedGate$Crumbs" (72 : Nat) ({ cls := "SaltedGate$Crumbs", name := "can", desc := "(II)Z" } : Jvm.MethodName)) ∈ lw_all := lw_g (lw_at lw_m7 48 rfl) rfl
theorem q1608 : (Jvm.Cond.privateMethod ({ cls := "SaltedGate$Crumbs", name := "can", desc := "(II)Z" } : Jvm.MethodName)) ∈ lw_tbl := lw_at lw_m7 49 rfl
theorem q1609 : (Jvm.Cond.instanceMethod ({ cls := "SaltedGate$Crumbs", name := "can", desc := "(II)Z" } : Jvm.MethodName)) ∈ lw_all := lw_g (lw_at lw_m7 50 rfl) rfl
theorem q1610 : (Jvm.Cond.code ({ cls := "SaltedGate$Crumbs", name := "can", desc := "(II)Z" } : Jvm.MethodName) prog_6_method_3_code (5 : Nat) (Option.some Jvm.ClassFile.FieldType.boolean)) ∈ lw_all := lw_g (lw_at lw_m7 51 rfl) rfl
theorem q1611 : (Jvm.Cond.methodLink "SaltedGate$Crumbs" (50 : Nat) ({ cls := "SaltedGate$Good", name := "means", desc := "()LSaltedGate$Means;" } : Jvm.MethodName)) ∈ lw_all := lw_g (lw_at lw_m7 52 rfl) rfl
theorem q1612 : (Jvm.Cond.methodLink "SaltedGate$Crumbs" (62 : Nat) ({ cls := "SaltedGate$Good", name := "isTurned", desc := "(I)Z" } : Jvm.MethodName)) ∈ lw_all := lw_g (lw_at lw_m7 53 rfl) rfl
theorem q1622 : (Jvm.Cond.instanceMethod ({ cls := "SaltedGate$Crumbs", name := "could", desc := "(I)I" } : Jvm.MethodName)) ∈ lw_all := lw_g (lw_at lw_m7 63 rfl) rfl
theorem q1623 : (Jvm.Cond.selects "SaltedGate$Crumbs" ({ cls := "SaltedGate$Crumbs", name := "could", desc := "(I)I" } : Jvm.MethodName) ({ cls := "SaltedGate$Crumbs", name := "could", desc := "(I)I" } : Jvm.MethodName)) ∈ lw_all := lw_g (lw_at lw_m7 64 rfl) rfl
theorem q1624 : (Jvm.Cond.code ({ cls := "SaltedGate$Crumbs", name := "could", desc := "(I)I" } : Jvm.MethodName) prog_6_method_5_code (2 : Nat) (Option.some Jvm.ClassFile.FieldType.int)) ∈ lw_all := lw_g (lw_at lw_m7 65 rfl) rfl
theorem q1630 : (Jvm.Cond.instanceMethod ({ cls := "SaltedGate$Crumbs", name := "surely", desc := "(I)I" } : Jvm.MethodName)) ∈ lw_all := lw_g (lw_at lw_m7 71 rfl) rfl
theorem q1631 : (Jvm.Cond.selects "SaltedGate$Crumbs" ({ cls := "SaltedGate$Crumbs", name := "surely", desc := "(I)I" } : Jvm.MethodName) ({ cls := "SaltedGate$Crumbs", name := "surely", desc := "(I)I" } : Jvm.MethodName)) ∈ lw_all := lw_g (lw_at lw_m7 72 rfl) rfl
theorem q1632 : (Jvm.Cond.code ({ cls := "SaltedGate$Crumbs", name := "surely", desc := "(I)I" } : Jvm.MethodName) prog_6_method_6_code (3 : Nat) (Option.some Jvm.ClassFile.FieldType.int)) ∈ lw_all := lw_g (lw_at lw_m7 73 rfl) rfl
theorem q1633 : (Jvm.Cond.methodLinkNest "SaltedGate$Crumbs" (76 : Nat) ({ cls := "SaltedGate", name := "has", desc := "(II)Z" } : Jvm.MethodName) "SaltedGate") ∈ lw_tbl := lw_at lw_m7 74 rfl
theorem q2567 : (Jvm.Cond.castable "SaltedGate$Crumbs" "java/lang/Object") ∈ lw_tbl := lw_at lw_m11 48 rfl
theorem in_X9 : ∀ w ∈ wsX90, w ∈ lw_all := lw_in wsX90 [371, 373, 375, 377, 379] (by decide +kernel) (by decide +kernel)

/-! SaltedGate$Choice -/
set_option maxRecDepth 100000
def RX10 : String := "SaltedGate$Choice"
abbrev cX10_init : ByteArray := prog_3_method_1_code
def yX10_init : MethodName := ⟨RX10, "<init>", "()V"⟩
def dkwX10_init_0 : List UInt8 := [42, 183, 0, 3, 42, 187, 0, 9, 89, 183, 0, 11, 181, 0, 12, 177]
abbrev dktX10_init_0 : List UInt8 := dkwX10_init_0 ++ []
theorem dksX10_init_0 : cX10_init.data.toList.drop 0 = dktX10_init_0 := by decide +kernel
theorem dX10_init_0 : decode cX10_init 0 = .ok (.aload_n 0, 1) := dk_42 (dk_at dksX10_init_0 0 rfl rfl)
theorem dX10_init_1 : decode cX10_init 1 = .ok (.invokespecial 3, 3) := dk_183 0 3 (dk_at dksX10_init_0 1 rfl rfl)
theorem dX10_init_4 : decode cX10_init 4 = .ok (.aload_n 0, 1) := dk_42 (dk_at dksX10_init_0 4 rfl rfl)
theorem dX10_init_5 : decode cX10_init 5 = .ok (.new 9, 3) := dk_187 0 9 (dk_at dksX10_init_0 5 rfl rfl)
theorem dX10_init_8 : decode cX10_init 8 = .ok (.dup, 1) := dk_89 (dk_at dksX10_init_0 8 rfl rfl)
theorem dX10_init_9 : decode cX10_init 9 = .ok (.invokespecial 11, 3) := dk_183 0 11 (dk_at dksX10_init_0 9 rfl rfl)
theorem dX10_init_12 : decode cX10_init 12 = .ok (.putfield 12, 3) := dk_181 0 12 (dk_at dksX10_init_0 12 rfl rfl)
theorem dX10_init_15 : decode cX10_init 15 = .ok (.return_, 1) := dk_177 (dk_at dksX10_init_0 15 rfl rfl)
abbrev cX10_seek : ByteArray := prog_3_method_3_code
def yX10_seek : MethodName := ⟨RX10, "seek", "(LSaltedGate$Barrier;LSaltedGate$Load;LSaltedGate$Law;III)V"⟩
def dkwX10_seek_7 : List UInt8 := [167, 255, 120, 177]
abbrev dktX10_seek_7 : List UInt8 := dkwX10_seek_7 ++ []
def dkwX10_seek_6 : List UInt8 := [184, 0, 54, 161, 0, 6, 167, 0, 15, 42, 21, 8, 181, 0, 22, 42, 21, 9, 181, 0, 26, 132, 8, 1]
abbrev dktX10_seek_6 : List UInt8 := dkwX10_seek_6 ++ dktX10_seek_7
def dkwX10_seek_5 : List UInt8 := [180, 0, 26, 163, 0, 42, 21, 9, 42, 180, 0, 26, 160, 0, 21, 21, 8, 184, 0, 54, 42, 180, 0, 22]
abbrev dktX10_seek_5 : List UInt8 := dkwX10_seek_5 ++ dktX10_seek_6
def dkwX10_seek_4 : List UInt8 := [182, 0, 46, 21, 6, 45, 182, 0, 50, 54, 9, 42, 180, 0, 26, 2, 159, 0, 39, 21, 9, 42]
abbrev dktX10_seek_4 : List UInt8 := dkwX10_seek_4 ++ dktX10_seek_5
def dkwX10_seek_3 : List UInt8 := [154, 0, 6, 167, 0, 86, 42, 180, 0, 12, 21, 4, 42, 180, 0, 12, 21, 4, 21, 5, 21, 6]
abbrev dktX10_seek_3 : List UInt8 := dkwX10_seek_3 ++ dktX10_seek_4
def dkwX10_seek_2 : List UInt8 := [167, 0, 112, 42, 180, 0, 12, 44, 182, 0, 38, 42, 21, 8, 21, 4, 21, 5, 21, 6, 182, 0, 42]
abbrev dktX10_seek_2 : List UInt8 := dkwX10_seek_2 ++ dktX10_seek_3
def dkwX10_seek_1 : List UInt8 := [54, 8, 21, 8, 4, 43, 180, 0, 33, 120, 162, 0, 131, 21, 8, 21, 7, 2, 130, 126, 153, 0, 6]
abbrev dktX10_seek_1 : List UInt8 := dkwX10_seek_1 ++ dktX10_seek_2
def dkwX10_seek_0 : List UInt8 := [42, 43, 181, 0, 18, 42, 3, 181, 0, 22, 42, 2, 181, 0, 26, 44, 21, 4, 182, 0, 29, 54, 7, 3]
abbrev dktX10_seek_0 : List UInt8 := dkwX10_seek_0 ++ dktX10_seek_1
theorem dksX10_seek_0 : cX10_seek.data.toList.drop 0 = dktX10_seek_0 := by decide +kernel
theorem dksX10_seek_1 : cX10_seek.data.toList.drop 24 = dktX10_seek_1 := dk_seg dksX10_seek_0 24 rfl rfl
theorem dksX10_seek_2 : cX10_seek.data.toList.drop 47 = dktX10_seek_2 := dk_seg dksX10_seek_1 23 rfl rfl
theorem dksX10_seek_3 : cX10_seek.data.toList.drop 70 = dktX10_seek_3 := dk_seg dksX10_seek_2 23 rfl rfl
theorem dksX10_seek_4 : cX10_seek.data.toList.drop 92 = dktX10_seek_4 := dk_seg dksX10_seek_3 22 rfl rfl
theorem dksX10_seek_5 : cX10_seek.data.toList.drop 114 = dktX10_seek_5 := dk_seg dksX10_seek_4 22 rfl rfl
theorem dksX10_seek_6 : cX10_seek.data.toList.drop 138 = dktX10_seek_6 := dk_seg dksX10_seek_5 24 rfl rfl
theorem dksX10_seek_7 : cX10_seek.data.toList.drop 162 = dktX10_seek_7 := dk_seg dksX10_seek_6 24 rfl rfl
theorem dX10_seek_0 : decode cX10_seek 0 = .ok (.aload_n 0, 1) := dk_42 (dk_at dksX10_seek_0 0 rfl rfl)
theorem dX10_seek_1 : decode cX10_seek 1 = .ok (.aload_n 1, 1) := dk_43 (dk_at dksX10_seek_0 1 rfl rfl)
theorem dX10_seek_2 : decode cX10_seek 2 = .ok (.putfield 18, 3) := dk_181 0 18 (dk_at dksX10_seek_0 2 rfl rfl)
theorem dX10_seek_5 : decode cX10_seek 5 = .ok (.aload_n 0, 1) := dk_42 (dk_at dksX10_seek_0 5 rfl rfl)
theorem dX10_seek_6 : decode cX10_seek 6 = .ok (.iconst 0, 1) := dk_3 (dk_at dksX10_seek_0 6 rfl rfl)
theorem dX10_seek_7 : decode cX10_seek 7 = .ok (.putfield 22, 3) := dk_181 0 22 (dk_at dksX10_seek_0 7 rfl rfl)
theorem dX10_seek_10 : decode cX10_seek 10 = .ok (.aload_n 0, 1) := dk_42 (dk_at dksX10_seek_0 10 rfl rfl)
theorem dX10_seek_11 : decode cX10_seek 11 = .ok (.iconst (-1), 1) := dk_2 (dk_at dksX10_seek_0 11 rfl rfl)
theorem dX10_seek_12 : decode cX10_seek 12 = .ok (.putfield 26, 3) := dk_181 0 26 (dk_at dksX10_seek_0 12 rfl rfl)
theorem dX10_seek_15 : decode cX10_seek 15 = .ok (.aload_n 2, 1) := dk_44 (dk_at dksX10_seek_0 15 rfl rfl)
theorem dX10_seek_16 : decode cX10_seek 16 = .ok (.iload 4, 2) := dk_21 4 (dk_at dksX10_seek_0 16 rfl rfl)
theorem dX10_seek_18 : decode cX10_seek 18 = .ok (.invokevirtual 29, 3) := dk_182 0 29 (dk_at dksX10_seek_0 18 rfl rfl)
theorem dX10_seek_21 : decode cX10_seek 21 = .ok (.istore 7, 2) := dk_54 7 (dk_at dksX10_seek_0 21 rfl rfl)
theorem dX10_seek_23 : decode cX10_seek 23 = .ok (.iconst 0, 1) := dk_3 (dk_at dksX10_seek_0 23 rfl rfl)
theorem dX10_seek_24 : decode cX10_seek 24 = .ok (.istore 8, 2) := dk_54 8 (dk_at dksX10_seek_1 0 rfl rfl)
theorem dX10_seek_26 : decode cX10_seek 26 = .ok (.iload 8, 2) := dk_21 8 (dk_at dksX10_seek_1 2 rfl rfl)
theorem dX10_seek_28 : decode cX10_seek 28 = .ok (.iconst 1, 1) := dk_4 (dk_at dksX10_seek_1 4 rfl rfl)
theorem dX10_seek_29 : decode cX10_seek 29 = .ok (.aload_n 1, 1) := dk_43 (dk_at dksX10_seek_1 5 rfl rfl)
theorem dX10_seek_30 : decode cX10_seek 30 = .ok (.getfield 33, 3) := dk_180 0 33 (dk_at dksX10_seek_1 6 rfl rfl)
theorem dX10_seek_33 : decode cX10_seek 33 = .ok (.ishl, 1) := dk_120 (dk_at dksX10_seek_1 9 rfl rfl)
theorem dX10_seek_34 : decode cX10_seek 34 = .ok (.if_icmp .ge 131, 3) := dk_162 0 131 (dk_at dksX10_seek_1 10 rfl rfl)
theorem dX10_seek_37 : decode cX10_seek 37 = .ok (.iload 8, 2) := dk_21 8 (dk_at dksX10_seek_1 13 rfl rfl)
theorem dX10_seek_39 : decode cX10_seek 39 = .ok (.iload 7, 2) := dk_21 7 (dk_at dksX10_seek_1 15 rfl rfl)
theorem dX10_seek_41 : decode cX10_seek 41 = .ok (.iconst (-1), 1) := dk_2 (dk_at dksX10_seek_1 17 rfl rfl)
theorem dX10_seek_42 : decode cX10_seek 42 = .ok (.ixor, 1) := dk_130 (dk_at dksX10_seek_1 18 rfl rfl)
theorem dX10_seek_43 : decode cX10_seek 43 = .ok (.iand, 1) := dk_126 (dk_at dksX10_seek_1 19 rfl rfl)
theorem dX10_seek_44 : decode cX10_seek 44 = .ok (.ifCond .eq 6, 3) := dk_153 0 6 (dk_at dksX10_seek_1 20 rfl rfl)
theorem dX10_seek_47 : decode cX10_seek 47 = .ok (.goto 112, 3) := dk_167 0 112 (dk_at dksX10_seek_2 0 rfl rfl)
theorem dX10_seek_50 : decode cX10_seek 50 = .ok (.aload_n 0, 1) := dk_42 (dk_at dksX10_seek_2 3 rfl rfl)
theorem dX10_seek_51 : decode cX10_seek 51 = .ok (.getfield 12, 3) := dk_180 0 12 (dk_at dksX10_seek_2 4 rfl rfl)
theorem dX10_seek_54 : decode cX10_seek 54 = .ok (.aload_n 2, 1) := dk_44 (dk_at dksX10_seek_2 7 rfl rfl)
theorem dX10_seek_55 : decode cX10_seek 55 = .ok (.invokevirtual 38, 3) := dk_182 0 38 (dk_at dksX10_seek_2 8 rfl rfl)
theorem dX10_seek_58 : decode cX10_seek 58 = .ok (.aload_n 0, 1) := dk_42 (dk_at dksX10_seek_2 11 rfl rfl)
theorem dX10_seek_59 : decode cX10_seek 59 = .ok (.iload 8, 2) := dk_21 8 (dk_at dksX10_seek_2 12 rfl rfl)
theorem dX10_seek_61 : decode cX10_seek 61 = .ok (.iload 4, 2) := dk_21 4 (dk_at dksX10_seek_2 14 rfl rfl)
theorem dX10_seek_63 : decode cX10_seek 63 = .ok (.iload 5, 2) := dk_21 5 (dk_at dksX10_seek_2 16 rfl rfl)
theorem dX10_seek_65 : decode cX10_seek 65 = .ok (.iload 6, 2) := dk_21 6 (dk_at dksX10_seek_2 18 rfl rfl)
theorem dX10_seek_67 : decode cX10_seek 67 = .ok (.invokevirtual 42, 3) := dk_182 0 42 (dk_at dksX10_seek_2 20 rfl rfl)
theorem dX10_seek_70 : decode cX10_seek 70 = .ok (.ifCond .ne 6, 3) := dk_154 0 6 (dk_at dksX10_seek_3 0 rfl rfl)
theorem dX10_seek_73 : decode cX10_seek 73 = .ok (.goto 86, 3) := dk_167 0 86 (dk_at dksX10_seek_3 3 rfl rfl)
theorem dX10_seek_76 : decode cX10_seek 76 = .ok (.aload_n 0, 1) := dk_42 (dk_at dksX10_seek_3 6 rfl rfl)
theorem dX10_seek_77 : decode cX10_seek 77 = .ok (.getfield 12, 3) := dk_180 0 12 (dk_at dksX10_seek_3 7 rfl rfl)
theorem dX10_seek_80 : decode cX10_seek 80 = .ok (.iload 4, 2) := dk_21 4 (dk_at dksX10_seek_3 10 rfl rfl)
theorem dX10_seek_82 : decode cX10_seek 82 = .ok (.aload_n 0, 1) := dk_42 (dk_at dksX10_seek_3 12 rfl rfl)
theorem dX10_seek_83 : decode cX10_seek 83 = .ok (.getfield 12, 3) := dk_180 0 12 (dk_at dksX10_seek_3 13 rfl rfl)
theorem dX10_seek_86 : decode cX10_seek 86 = .ok (.iload 4, 2) := dk_21 4 (dk_at dksX10_seek_3 16 rfl rfl)
theorem dX10_seek_88 : decode cX10_seek 88 = .ok (.iload 5, 2) := dk_21 5 (dk_at dksX10_seek_3 18 rfl rfl)
theorem dX10_seek_90 : decode cX10_seek 90 = .ok (.iload 6, 2) := dk_21 6 (dk_at dksX10_seek_3 20 rfl rfl)
theorem dX10_seek_92 : decode cX10_seek 92 = .ok (.invokevirtual 46, 3) := dk_182 0 46 (dk_at dksX10_seek_4 0 rfl rfl)
theorem dX10_seek_95 : decode cX10_seek 95 = .ok (.iload 6, 2) := dk_21 6 (dk_at dksX10_seek_4 3 rfl rfl)
theorem dX10_seek_97 : decode cX10_seek 97 = .ok (.aload_n 3, 1) := dk_45 (dk_at dksX10_seek_4 5 rfl rfl)
theorem dX10_seek_98 : decode cX10_seek 98 = .ok (.invokevirtual 50, 3) := dk_182 0 50 (dk_at dksX10_seek_4 6 rfl rfl)
theorem dX10_seek_101 : decode cX10_seek 101 = .ok (.istore 9, 2) := dk_54 9 (dk_at dksX10_seek_4 9 rfl rfl)
theorem dX10_seek_103 : decode cX10_seek 103 = .ok (.aload_n 0, 1) := dk_42 (dk_at dksX10_seek_4 11 rfl rfl)
theorem dX10_seek_104 : decode cX10_seek 104 = .ok (.getfield 26, 3) := dk_180 0 26 (dk_at dksX10_seek_4 12 rfl rfl)
theorem dX10_seek_107 : decode cX10_seek 107 = .ok (.iconst (-1), 1) := dk_2 (dk_at dksX10_seek_4 15 rfl rfl)
theorem dX10_seek_108 : decode cX10_seek 108 = .ok (.if_icmp .eq 39, 3) := dk_159 0 39 (dk_at dksX10_seek_4 16 rfl rfl)
theorem dX10_seek_111 : decode cX10_seek 111 = .ok (.iload 9, 2) := dk_21 9 (dk_at dksX10_seek_4 19 rfl rfl)
theorem dX10_seek_113 : decode cX10_seek 113 = .ok (.aload_n 0, 1) := dk_42 (dk_at dksX10_seek_4 21 rfl rfl)
theorem dX10_seek_114 : decode cX10_seek 114 = .ok (.getfield 26, 3) := dk_180 0 26 (dk_at dksX10_seek_5 0 rfl rfl)
theorem dX10_seek_117 : decode cX10_seek 117 = .ok (.if_icmp .gt 42, 3) := dk_163 0 42 (dk_at dksX10_seek_5 3 rfl rfl)
theorem dX10_seek_120 : decode cX10_seek 120 = .ok (.iload 9, 2) := dk_21 9 (dk_at dksX10_seek_5 6 rfl rfl)
theorem dX10_seek_122 : decode cX10_seek 122 = .ok (.aload_n 0, 1) := dk_42 (dk_at dksX10_seek_5 8 rfl rfl)
theorem dX10_seek_123 : decode cX10_seek 123 = .ok (.getfield 26, 3) := dk_180 0 26 (dk_at dksX10_seek_5 9 rfl rfl)
theorem dX10_seek_126 : decode cX10_seek 126 = .ok (.if_icmp .ne 21, 3) := dk_160 0 21 (dk_at dksX10_seek_5 12 rfl rfl)
theorem dX10_seek_129 : decode cX10_seek 129 = .ok (.iload 8, 2) := dk_21 8 (dk_at dksX10_seek_5 15 rfl rfl)
theorem dX10_seek_131 : decode cX10_seek 131 = .ok (.invokestatic 54, 3) := dk_184 0 54 (dk_at dksX10_seek_5 17 rfl rfl)
theorem dX10_seek_134 : decode cX10_seek 134 = .ok (.aload_n 0, 1) := dk_42 (dk_at dksX10_seek_5 20 rfl rfl)
theorem dX10_seek_135 : decode cX10_seek 135 = .ok (.getfield 22, 3) := dk_180 0 22 (dk_at dksX10_seek_5 21 rfl rfl)
theorem dX10_seek_138 : decode cX10_seek 138 = .ok (.invokestatic 54, 3) := dk_184 0 54 (dk_at dksX10_seek_6 0 rfl rfl)
theorem dX10_seek_141 : decode cX10_seek 141 = .ok (.if_icmp .lt 6, 3) := dk_161 0 6 (dk_at dksX10_seek_6 3 rfl rfl)
theorem dX10_seek_144 : decode cX10_seek 144 = .ok (.goto 15, 3) := dk_167 0 15 (dk_at dksX10_seek_6 6 rfl rfl)
theorem dX10_seek_147 : decode cX10_seek 147 = .ok (.aload_n 0, 1) := dk_42 (dk_at dksX10_seek_6 9 rfl rfl)
theorem dX10_seek_148 : decode cX10_seek 148 = .ok (.iload 8, 2) := dk_21 8 (dk_at dksX10_seek_6 10 rfl rfl)
theorem dX10_seek_150 : decode cX10_seek 150 = .ok (.putfield 22, 3) := dk_181 0 22 (dk_at dksX10_seek_6 12 rfl rfl)
theorem dX10_seek_153 : decode cX10_seek 153 = .ok (.aload_n 0, 1) := dk_42 (dk_at dksX10_seek_6 15 rfl rfl)
theorem dX10_seek_154 : decode cX10_seek 154 = .ok (.iload 9, 2) := dk_21 9 (dk_at dksX10_seek_6 16 rfl rfl)
theorem dX10_seek_156 : decode cX10_seek 156 = .ok (.putfield 26, 3) := dk_181 0 26 (dk_at dksX10_seek_6 18 rfl rfl)
theorem dX10_seek_159 : decode cX10_seek 159 = .ok (.iinc 8 1, 3) := dk_132 8 1 (dk_at dksX10_seek_6 21 rfl rfl)
theorem dX10_seek_162 : decode cX10_seek 162 = .ok (.goto (-136), 3) := dk_167 255 120 (dk_at dksX10_seek_7 0 rfl rfl)
theorem dX10_seek_165 : decode cX10_seek 165 = .ok (.return_, 1) := dk_177 (dk_at dksX10_seek_7 3 rfl rfl)
abbrev cX10_goods : ByteArray := prog_3_method_6_code
def yX10_goods : MethodName := ⟨RX10, "goods", "()I"⟩
def dkwX10_goods_0 : List UInt8 := [42, 180, 0, 18, 180, 0, 33, 172]
abbrev dktX10_goods_0 : List UInt8 := dkwX10_goods_0 ++ []
theorem dksX10_goods_0 : cX10_goods.data.toList.drop 0 = dktX10_goods_0 := by decide +kernel
theorem dX10_goods_0 : decode cX10_goods 0 = .ok (.aload_n 0, 1) := dk_42 (dk_at dksX10_goods_0 0 rfl rfl)
theorem dX10_goods_1 : decode cX10_goods 1 = .ok (.getfield 18, 3) := dk_180 0 18 (dk_at dksX10_goods_0 1 rfl rfl)
theorem dX10_goods_4 : decode cX10_goods 4 = .ok (.getfield 33, 3) := dk_180 0 33 (dk_at dksX10_goods_0 4 rfl rfl)
theorem dX10_goods_7 : decode cX10_goods 7 = .ok (.ireturn, 1) := dk_172 (dk_at dksX10_goods_0 7 rfl rfl)
abbrev cX10_best : ByteArray := prog_3_method_4_code
def yX10_best : MethodName := ⟨RX10, "best", "()I"⟩
theorem dX10_best_0 : decode cX10_best 0 = .ok (.aload_n 0, 1) := by decide +kernel
theorem dX10_best_1 : decode cX10_best 1 = .ok (.getfield 22, 3) := by decide +kernel
theorem dX10_best_4 : decode cX10_best 4 = .ok (.ireturn, 1) := by decide +kernel
abbrev cX10_least : ByteArray := prog_3_method_5_code
def yX10_least : MethodName := ⟨RX10, "least", "()I"⟩
theorem dX10_least_0 : decode cX10_least 0 = .ok (.aload_n 0, 1) := by decide +kernel
theorem dX10_least_1 : decode cX10_least 1 = .ok (.getfield 26, 3) := by decide +kernel
theorem dX10_least_4 : decode cX10_least 4 = .ok (.ireturn, 1) := by decide +kernel
theorem q132 : (Jvm.Cond.initialized "SaltedGate$Choice") ∈ lw_all := lw_g (lw_at lw_m1 13 rfl) rfl
theorem q388 : (Jvm.Cond.instanceMethod ({ cls := "SaltedGate$Choice", name := "<init>", desc := "()V" } : Jvm.MethodName)) ∈ lw_all := lw_g (lw_at lw_m2 29 rfl) rfl
theorem q389 : (Jvm.Cond.code ({ cls := "SaltedGate$Choice", name := "<init>", desc := "()V" } : Jvm.MethodName) prog_3_method_1_code (1 : Nat) (Option.none : Option Jvm.ClassFile.FieldType)) ∈ lw_all := lw_g (lw_at lw_m2 30 rfl) rfl
theorem q390 : (Jvm.Cond.methodLink "SaltedGate$Choice" (3 : Nat) ({ cls := "java/lang/Object", name := "<init>", desc := "()V" } : Jvm.MethodName)) ∈ lw_all := lw_g (lw_at lw_m2 31 rfl) rfl
theorem q391 : (Jvm.Cond.classLink "SaltedGate$Choice" (9 : Nat) "SaltedGate$Load") ∈ lw_all := lw_g (lw_at lw_m2 32 rfl) rfl
theorem q392 : (Jvm.Cond.methodLinkNest "SaltedGate$Choice" (11 : Nat) ({ cls := "SaltedGate$Load", name := "<init>", desc := "()V" } : Jvm.MethodName) "SaltedGate") ∈ lw_tbl := lw_at lw_m2 33 rfl
theorem q393 : (Jvm.Cond.fieldLink "SaltedGate$Choice" (12 : Nat) "SaltedGate$Choice" "load" "LSaltedGate$Load;") ∈ lw_all := lw_g (lw_at lw_m2 34 rfl) rfl
theorem q398 : (Jvm.Cond.fieldLink "SaltedGate$Choice" (18 : Nat) "SaltedGate$Choice" "barrier" "LSaltedGate$Barrier;") ∈ lw_all := lw_g (lw_at lw_m2 39 rfl) rfl
theorem q399 : (Jvm.Cond.fieldLink "SaltedGate$Choice" (22 : Nat) "SaltedGate$Choice" "best" "I") ∈ lw_all := lw_g (lw_at lw_m2 40 rfl) rfl
theorem q400 : (Jvm.Cond.fieldLink "SaltedGate$Choice" (26 : Nat) "SaltedGate$Choice" "least" "I") ∈ lw_all := lw_g (lw_at lw_m2 41 rfl) rfl
theorem q402 : (Jvm.Cond.soleField "SaltedGate$Choice" "load") ∈ lw_all := lw_g (lw_at lw_m2 43 rfl) rfl
theorem q404 : (Jvm.Cond.soleField "SaltedGate$Choice" "barrier") ∈ lw_all := lw_g (lw_at lw_m2 45 rfl) rfl
theorem q406 : (Jvm.Cond.soleField "SaltedGate$Choice" "best") ∈ lw_all := lw_g (lw_at lw_m2 47 rfl) rfl
theorem q408 : (Jvm.Cond.soleField "SaltedGate$Choice" "least") ∈ lw_all := lw_g (lw_at lw_m2 49 rfl) rfl
theorem q568 : (Jvm.Cond.fieldLink "SaltedGate$Choice" (33 : Nat) "SaltedGate$Barrier" "goodMany" "I") ∈ lw_all := lw_g (lw_at lw_m2 209 rfl) rfl
theorem q1451 : (Jvm.Cond.instanceMethod ({ cls := "SaltedGate$Choice", name := "seek", desc := "(LSaltedGate$Barrier;LSaltedGate$Load;LSaltedGate$Law;III)V" } : Jvm.MethodName)) ∈ lw_all := lw_g (lw_at lw_m6 132 rfl) rfl
theorem q1452 : (Jvm.Cond.sameMethod "SaltedGate$Choice" "SaltedGate$Choice" "seek" "(LSaltedGate$Barrier;LSaltedGate$Load;LSaltedGate$Law;III)V") ∈ lw_all := lw_g (lw_at lw_m6 133 rfl) rfl
theorem q1455 : (Jvm.Cond.code ({ cls := "SaltedGate$Choice", name := "seek", desc := "(LSaltedGate$Barrier;LSaltedGate$Load;LSaltedGate$Law;III)V" } : Jvm.MethodName) prog_3_method_3_code (10 : Nat) (Option.none : Option Jvm.ClassFile.FieldType)) ∈ lw_all := lw_g (lw_at lw_m6 136 rfl) rfl
theorem q1456 : (Jvm.Cond.methodLink "SaltedGate$Choice" (29 : Nat) ({ cls := "SaltedGate$Load", name := "has", desc := "(I)I" } : Jvm.MethodName)) ∈ lw_all := lw_g (lw_at lw_m6 137 rfl) rfl
theorem q1457 : (Jvm.Cond.methodLink "SaltedGate$Choice" (38 : Nat) ({ cls := "SaltedGate$Load", name := "become", desc := "(LSaltedGate$Load;)V" } : Jvm.MethodName)) ∈ lw_all := lw_g (lw_at lw_m6 138 rfl) rfl
theorem q1464 : (Jvm.Cond.methodLink "SaltedGate$Choice" (42 : Nat) ({ cls := "SaltedGate$Choice", name := "may", desc := "(IIII)Z" } : Jvm.MethodName)) ∈ lw_all := lw_g (lw_at lw_m6 145 rfl) rfl
theorem q1465 : (Jvm.Cond.declares ({ cls := "SaltedGate$Choice", name := "may", desc := "(IIII)Z" } : Jvm.MethodName)) ∈ lw_tbl := lw_at lw_m6 146 rfl
theorem q1466 : (Jvm.Cond.sameMethod "SaltedGate$Choice" "SaltedGate$Choice" "may" "(IIII)Z") ∈ lw_all := lw_g (lw_at lw_m6 147 rfl) rfl
theorem q1476 : (Jvm.Cond.declares ({ cls := "SaltedGate$Choice", name := "goods", desc := "()I" } : Jvm.MethodName)) ∈ lw_tbl := lw_at lw_m6 157 rfl
theorem q1478 : (Jvm.Cond.instanceMethod ({ cls := "SaltedGate$Choice", name := "goods", desc := "()I" } : Jvm.MethodName)) ∈ lw_all := lw_g (lw_at lw_m6 159 rfl) rfl
theorem q1479 : (Jvm.Cond.code ({ cls := "SaltedGate$Choice", name := "goods", desc := "()I" } : Jvm.MethodName) prog_3_method_6_code (1 : Nat) (Option.some Jvm.ClassFile.FieldType.int)) ∈ lw_all := lw_g (lw_at lw_m6 160 rfl) rfl
theorem q1486 : (Jvm.Cond.methodLink "SaltedGate$Choice" (46 : Nat) ({ cls := "SaltedGate$Load", name := "found", desc := "(III)I" } : Jvm.MethodName)) ∈ lw_all := lw_g (lw_at lw_m6 167 rfl) rfl
theorem q1487 : (Jvm.Cond.methodLink "SaltedGate$Choice" (50 : Nat) ({ cls := "SaltedGate$Load", name := "asked", desc := "(IIILSaltedGate$Law;)I" } : Jvm.MethodName)) ∈ lw_all := lw_g (lw_at lw_m6 168 rfl) rfl
theorem q1488 : (Jvm.Cond.methodLinkNest "SaltedGate$Choice" (54 : Nat) ({ cls := "SaltedGate", name := "ones", desc := "(I)I" } : Jvm.MethodName) "SaltedGate") ∈ lw_tbl := lw_at lw_m6 169 rfl
theorem q1490 : (Jvm.Cond.instanceMethod ({ cls := "SaltedGate$Choice", name := "best", desc := "()I" } : Jvm.MethodName)) ∈ lw_all := lw_g (lw_at lw_m6 171 rfl) rfl
theorem q1491 : (Jvm.Cond.sameMethod "SaltedGate$Choice" "SaltedGate$Choice" "best" "()I") ∈ lw_all := lw_g (lw_at lw_m6 172 rfl) rfl
theorem q1494 : (Jvm.Cond.code ({ cls := "SaltedGate$Choice", name := "best", desc := "()I" } : Jvm.MethodName) prog_3_method_4_code (1 : Nat) (Option.some Jvm.ClassFile.FieldType.int)) ∈ lw_all := lw_g (lw_at lw_m6 175 rfl) rfl
theorem q1500 : (Jvm.Cond.instanceMethod ({ cls := "SaltedGate$Choice", name := "least", desc := "()I" } : Jvm.MethodName)) ∈ lw_all := lw_g (lw_at lw_m6 181 rfl) rfl
theorem q1501 : (Jvm.Cond.sameMethod "SaltedGate$Choice" "SaltedGate$Choice" "least" "()I") ∈ lw_all := lw_g (lw_at lw_m6 182 rfl) rfl
theorem q1504 : (Jvm.Cond.code ({ cls := "SaltedGate$Choice", name := "least", desc := "()I" } : Jvm.MethodName) prog_3_method_5_code (1 : Nat) (Option.some Jvm.ClassFile.FieldType.int)) ∈ lw_all := lw_g (lw_at lw_m6 185 rfl) rfl

/-! SaltedGate$Eating -/
set_option maxRecDepth 100000
def RX11 : String := "SaltedGate$Eating"
def TX11 : u_T := fun k => match k with
  | 0 => ("SaltedGate$Choice", "load", "LSaltedGate$Load;", true)
  | 1 => ("SaltedGate$Choice", "barrier", "LSaltedGate$Barrier;", false)
  | 2 => ("SaltedGate$Choice", "best", "I", false)
  | _ => ("SaltedGate$Choice", "least", "I", false)
def tyX11 : Nat → FieldType := fun k => match k with
  | 0 => .object "SaltedGate$Load"
  | 1 => .object "SaltedGate$Barrier"
  | 2 => .int
  | _ => .int
abbrev wsX110 : List Cond := u_ws RX11 TX11 4
theorem nmX11 : ∀ a, a < 4 → ∀ b, b < 4 → a ≠ b → (TX11 a).2.1 ≠ (TX11 b).2.1 := by decide +kernel
theorem tyX11_ok : ∀ k, k < 4 → parseFieldDescriptor (TX11 k).2.2.1 = some (tyX11 k) := by decide +kernel
abbrev cX11_init : ByteArray := prog_7_method_1_code
def yX11_init : MethodName := ⟨RX11, "<init>", "()V"⟩
theorem dX11_init_0 : decode cX11_init 0 = .ok (.aload_n 0, 1) := by decide +kernel
theorem dX11_init_1 : decode cX11_init 1 = .ok (.invokespecial 3, 3) := by decide +kernel
theorem dX11_init_4 : decode cX11_init 4 = .ok (.return_, 1) := by decide +kernel
abbrev cX11_may : ByteArray := prog_7_method_2_code
def yX11_may : MethodName := ⟨RX11, "may", "(IIII)Z"⟩
def dkwX11_may_2 : List UInt8 := [4, 79, 132, 5, 1, 167, 255, 224, 4, 172]
abbrev dktX11_may_2 : List UInt8 := dkwX11_may_2 ++ []
def dkwX11_may_1 : List UInt8 := [182, 0, 24, 162, 0, 29, 27, 21, 5, 184, 0, 28, 153, 0, 14, 42, 180, 0, 13, 180, 0, 32, 21, 5]
abbrev dktX11_may_1 : List UInt8 := dkwX11_may_1 ++ dktX11_may_2
def dkwX11_may_0 : List UInt8 := [27, 184, 0, 9, 42, 180, 0, 13, 28, 182, 0, 19, 164, 0, 5, 3, 172, 3, 54, 5, 21, 5, 42]
abbrev dktX11_may_0 : List UInt8 := dkwX11_may_0 ++ dktX11_may_1
theorem dksX11_may_0 : cX11_may.data.toList.drop 0 = dktX11_may_0 := by decide +kernel
theorem dksX11_may_1 : cX11_may.data.toList.drop 23 = dktX11_may_1 := dk_seg dksX11_may_0 23 rfl rfl
theorem dksX11_may_2 : cX11_may.data.toList.drop 47 = dktX11_may_2 := dk_seg dksX11_may_1 24 rfl rfl
theorem dX11_may_0 : decode cX11_may 0 = .ok (.iload_n 1, 1) := dk_27 (dk_at dksX11_may_0 0 rfl rfl)
theorem dX11_may_1 : decode cX11_may 1 = .ok (.invokestatic 9, 3) := dk_184 0 9 (dk_at dksX11_may_0 1 rfl rfl)
theorem dX11_may_4 : decode cX11_may 4 = .ok (.aload_n 0, 1) := dk_42 (dk_at dksX11_may_0 4 rfl rfl)
theorem dX11_may_5 : decode cX11_may 5 = .ok (.getfield 13, 3) := dk_180 0 13 (dk_at dksX11_may_0 5 rfl rfl)
theorem dX11_may_8 : decode cX11_may 8 = .ok (.iload_n 2, 1) := dk_28 (dk_at dksX11_may_0 8 rfl rfl)
theorem dX11_may_9 : decode cX11_may 9 = .ok (.invokevirtual 19, 3) := dk_182 0 19 (dk_at dksX11_may_0 9 rfl rfl)
theorem dX11_may_12 : decode cX11_may 12 = .ok (.if_icmp .le 5, 3) := dk_164 0 5 (dk_at dksX11_may_0 12 rfl rfl)
theorem dX11_may_15 : decode cX11_may 15 = .ok (.iconst 0, 1) := dk_3 (dk_at dksX11_may_0 15 rfl rfl)
theorem dX11_may_16 : decode cX11_may 16 = .ok (.ireturn, 1) := dk_172 (dk_at dksX11_may_0 16 rfl rfl)
theorem dX11_may_17 : decode cX11_may 17 = .ok (.iconst 0, 1) := dk_3 (dk_at dksX11_may_0 17 rfl rfl)
theorem dX11_may_18 : decode cX11_may 18 = .ok (.istore 5, 2) := dk_54 5 (dk_at dksX11_may_0 18 rfl rfl)
theorem dX11_may_20 : decode cX11_may 20 = .ok (.iload 5, 2) := dk_21 5 (dk_at dksX11_may_0 20 rfl rfl)
theorem dX11_may_22 : decode cX11_may 22 = .ok (.aload_n 0, 1) := dk_42 (dk_at dksX11_may_0 22 rfl rfl)
theorem dX11_may_23 : decode cX11_may 23 = .ok (.invokevirtual 24, 3) := dk_182 0 24 (dk_at dksX11_may_1 0 rfl rfl)
theorem dX11_may_26 : decode cX11_may 26 = .ok (.if_icmp .ge 29, 3) := dk_162 0 29 (dk_at dksX11_may_1 3 rfl rfl)
theorem dX11_may_29 : decode cX11_may 29 = .ok (.iload_n 1, 1) := dk_27 (dk_at dksX11_may_1 6 rfl rfl)
theorem dX11_may_30 : decode cX11_may 30 = .ok (.iload 5, 2) := dk_21 5 (dk_at dksX11_may_1 7 rfl rfl)
theorem dX11_may_32 : decode cX11_may 32 = .ok (.invokestatic 28, 3) := dk_184 0 28 (dk_at dksX11_may_1 9 rfl rfl)
theorem dX11_may_35 : decode cX11_may 35 = .ok (.ifCond .eq 14, 3) := dk_153 0 14 (dk_at dksX11_may_1 12 rfl rfl)
theorem dX11_may_38 : decode cX11_may 38 = .ok (.aload_n 0, 1) := dk_42 (dk_at dksX11_may_1 15 rfl rfl)
theorem dX11_may_39 : decode cX11_may 39 = .ok (.getfield 13, 3) := dk_180 0 13 (dk_at dksX11_may_1 16 rfl rfl)
theorem dX11_may_42 : decode cX11_may 42 = .ok (.getfield 32, 3) := dk_180 0 32 (dk_at dksX11_may_1 19 rfl rfl)
theorem dX11_may_45 : decode cX11_may 45 = .ok (.iload 5, 2) := dk_21 5 (dk_at dksX11_may_1 22 rfl rfl)
theorem dX11_may_47 : decode cX11_may 47 = .ok (.iconst 1, 1) := dk_4 (dk_at dksX11_may_2 0 rfl rfl)
theorem dX11_may_48 : decode cX11_may 48 = .ok (.iastore, 1) := dk_79 (dk_at dksX11_may_2 1 rfl rfl)
theorem dX11_may_49 : decode cX11_may 49 = .ok (.iinc 5 1, 3) := dk_132 5 1 (dk_at dksX11_may_2 2 rfl rfl)
theorem dX11_may_52 : decode cX11_may 52 = .ok (.goto (-32), 3) := dk_167 255 224 (dk_at dksX11_may_2 5 rfl rfl)
theorem dX11_may_55 : decode cX11_may 55 = .ok (.iconst 1, 1) := dk_4 (dk_at dksX11_may_2 8 rfl rfl)
theorem dX11_may_56 : decode cX11_may 56 = .ok (.ireturn, 1) := dk_172 (dk_at dksX11_may_2 9 rfl rfl)
theorem q133 : (Jvm.Cond.initialized "SaltedGate$Eating") ∈ lw_all := lw_g (lw_at lw_m1 14 rfl) rfl
theorem q285 : (Jvm.Cond.fieldLink "SaltedGate$Eating" (32 : Nat) "SaltedGate$Load" "state" "[I") ∈ lw_all := lw_g (lw_at lw_m1 166 rfl) rfl
theorem q383 : (Jvm.Cond.instantiable "SaltedGate$Eating" (4 : Nat)) ∈ lw_all := lw_g (lw_at lw_m2 24 rfl) rfl
theorem q385 : (Jvm.Cond.instanceMethod ({ cls := "SaltedGate$Eating", name := "<init>", desc := "()V" } : Jvm.MethodName)) ∈ lw_all := lw_g (lw_at lw_m2 26 rfl) rfl
theorem q386 : (Jvm.Cond.code ({ cls := "SaltedGate$Eating", name := "<init>", desc := "()V" } : Jvm.MethodName) prog_7_method_1_code (1 : Nat) (Option.none : Option Jvm.ClassFile.FieldType)) ∈ lw_all := lw_g (lw_at lw_m2 27 rfl) rfl
theorem q387 : (Jvm.Cond.methodLinkNest "SaltedGate$Eating" (3 : Nat) ({ cls := "SaltedGate$Choice", name := "<init>", desc := "()V" } : Jvm.MethodName) "SaltedGate") ∈ lw_tbl := lw_at lw_m2 28 rfl
theorem q396 : (Jvm.Cond.fieldLink "SaltedGate$Eating" (13 : Nat) "SaltedGate$Eating" "load" "LSaltedGate$Load;") ∈ lw_all := lw_g (lw_at lw_m2 37 rfl) rfl
theorem q397 : (Jvm.Cond.sameField "SaltedGate$Eating" "SaltedGate$Choice" "load" "LSaltedGate$Load;") ∈ lw_all := lw_g (lw_at lw_m2 38 rfl) rfl
theorem q401 : (Jvm.Cond.laysFinal "SaltedGate$Eating" "SaltedGate$Choice" "load" "LSaltedGate$Load;") ∈ lw_all := lw_g (lw_at lw_m2 42 rfl) rfl
theorem q403 : (Jvm.Cond.lays "SaltedGate$Eating" "SaltedGate$Choice" "barrier" "LSaltedGate$Barrier;") ∈ lw_all := lw_g (lw_at lw_m2 44 rfl) rfl
theorem q405 : (Jvm.Cond.lays "SaltedGate$Eating" "SaltedGate$Choice" "best" "I") ∈ lw_all := lw_g (lw_at lw_m2 46 rfl) rfl
theorem q407 : (Jvm.Cond.lays "SaltedGate$Eating" "SaltedGate$Choice" "least" "I") ∈ lw_all := lw_g (lw_at lw_m2 48 rfl) rfl
theorem q409 : (Jvm.Cond.superclass "SaltedGate$Eating" "SaltedGate$Choice") ∈ lw_all := lw_g (lw_at lw_m2 50 rfl) rfl
theorem q1453 : (Jvm.Cond.selects "SaltedGate$Eating" ({ cls := "SaltedGate$Choice", name := "seek", desc := "(LSaltedGate$Barrier;LSaltedGate$Load;LSaltedGate$Law;III)V" } : Jvm.MethodName) ({ cls := "SaltedGate$Choice", name := "seek", desc := "(LSaltedGate$Barrier;LSaltedGate$Load;LSaltedGate$Law;III)V" } : Jvm.MethodName)) ∈ lw_all := lw_g (lw_at lw_m6 134 rfl) rfl
theorem q1467 : (Jvm.Cond.selects "SaltedGate$Eating" ({ cls := "SaltedGate$Choice", name := "may", desc := "(IIII)Z" } : Jvm.MethodName) ({ cls := "SaltedGate$Eating", name := "may", desc := "(IIII)Z" } : Jvm.MethodName)) ∈ lw_all := lw_g (lw_at lw_m6 148 rfl) rfl
theorem q1468 : (Jvm.Cond.instanceMethod ({ cls := "SaltedGate$Eating", name := "may", desc := "(IIII)Z" } : Jvm.MethodName)) ∈ lw_all := lw_g (lw_at lw_m6 149 rfl) rfl
theorem q1469 : (Jvm.Cond.code ({ cls := "SaltedGate$Eating", name := "may", desc := "(IIII)Z" } : Jvm.MethodName) prog_7_method_2_code (6 : Nat) (Option.some Jvm.ClassFile.FieldType.boolean)) ∈ lw_all := lw_g (lw_at lw_m6 150 rfl) rfl
theorem q1470 : (Jvm.Cond.methodLinkNest "SaltedGate$Eating" (9 : Nat) ({ cls := "SaltedGate", name := "ones", desc := "(I)I" } : Jvm.MethodName) "SaltedGate") ∈ lw_tbl := lw_at lw_m6 151 rfl
theorem q1473 : (Jvm.Cond.methodLink "SaltedGate$Eating" (19 : Nat) ({ cls := "SaltedGate$Load", name := "hunger", desc := "(I)I" } : Jvm.MethodName)) ∈ lw_all := lw_g (lw_at lw_m6 154 rfl) rfl
theorem q1474 : (Jvm.Cond.methodLink "SaltedGate$Eating" (24 : Nat) ({ cls := "SaltedGate$Eating", name := "goods", desc := "()I" } : Jvm.MethodName)) ∈ lw_all := lw_g (lw_at lw_m6 155 rfl) rfl
theorem q1475 : (Jvm.Cond.sameMethod "SaltedGate$Eating" "SaltedGate$Choice" "goods" "()I") ∈ lw_all := lw_g (lw_at lw_m6 156 rfl) rfl
theorem q1477 : (Jvm.Cond.selects "SaltedGate$Eating" ({ cls := "SaltedGate$Eating", name := "goods", desc := "()I" } : Jvm.MethodName) ({ cls := "SaltedGate$Choice", name := "goods", desc := "()I" } : Jvm.MethodName)) ∈ lw_all := lw_g (lw_at lw_m6 158 rfl) rfl
theorem q1480 : (Jvm.Cond.methodLinkNest "SaltedGate$Eating" (28 : Nat) ({ cls := "SaltedGate", name := "has", desc := "(II)Z" } : Jvm.MethodName) "SaltedGate") ∈ lw_tbl := lw_at lw_m6 161 rfl
theorem q1492 : (Jvm.Cond.selects "SaltedGate$Eating" ({ cls := "SaltedGate$Choice", name := "best", desc := "()I" } : Jvm.MethodName) ({ cls := "SaltedGate$Choice", name := "best", desc := "()I" } : Jvm.MethodName)) ∈ lw_all := lw_g (lw_at lw_m6 173 rfl) rfl
theorem q1502 : (Jvm.Cond.selects "SaltedGate$Eating" ({ cls := "SaltedGate$Choice", name := "least", desc := "()I" } : Jvm.MethodName) ({ cls := "SaltedGate$Choice", name := "least", desc := "()I" } : Jvm.MethodName)) ∈ lw_all := lw_g (lw_at lw_m6 183 rfl) rfl
theorem q2568 : (Jvm.Cond.castable "SaltedGate$Eating" "java/lang/Object") ∈ lw_tbl := lw_at lw_m11 49 rfl
theorem in_X11 : ∀ w ∈ wsX110, w ∈ lw_all := lw_in wsX110 [401, 403, 405, 407] (by decide +kernel) (by decide +kernel)

/-! SaltedGate$Hiding -/
set_option maxRecDepth 100000
def RX12 : String := "SaltedGate$Hiding"
def TX12 : u_T := fun k => match k with
  | 0 => ("SaltedGate$Choice", "load", "LSaltedGate$Load;", true)
  | 1 => ("SaltedGate$Choice", "barrier", "LSaltedGate$Barrier;", false)
  | 2 => ("SaltedGate$Choice", "best", "I", false)
  | _ => ("SaltedGate$Choice", "least", "I", false)
def tyX12 : Nat → FieldType := fun k => match k with
  | 0 => .object "SaltedGate$Load"
  | 1 => .object "SaltedGate$Barrier"
  | 2 => .int
  | _ => .int
abbrev wsX120 : List Cond := u_ws RX12 TX12 4
theorem nmX12 : ∀ a, a < 4 → ∀ b, b < 4 → a ≠ b → (TX12 a).2.1 ≠ (TX12 b).2.1 := by decide +kernel
theorem tyX12_ok : ∀ k, k < 4 → parseFieldDescriptor (TX12 k).2.2.1 = some (tyX12 k) := by decide +kernel
abbrev cX12_init : ByteArray := prog_11_method_1_code
def yX12_init : MethodName := ⟨RX12, "<init>", "()V"⟩
theorem dX12_init_0 : decode cX12_init 0 = .ok (.aload_n 0, 1) := by decide +kernel
theorem dX12_init_1 : decode cX12_init 1 = .ok (.invokespecial 1, 3) := by decide +kernel
theorem dX12_init_4 : decode cX12_init 4 = .ok (.return_, 1) := by decide +kernel
abbrev cX12_may : ByteArray := prog_11_method_2_code
def yX12_may : MethodName := ⟨RX12, "may", "(IIII)Z"⟩
def dkwX12_may_1 : List UInt8 := [181, 0, 13, 42, 180, 0, 7, 28, 29, 21, 4, 182, 0, 23, 154, 0, 7, 4, 167, 0, 4, 3, 172]
abbrev dktX12_may_1 : List UInt8 := dkwX12_may_1 ++ []
def dkwX12_may_0 : List UInt8 := [42, 180, 0, 7, 42, 180, 0, 7, 180, 0, 13, 42, 180, 0, 7, 28, 182, 0, 19, 2, 130, 126, 27, 128]
abbrev dktX12_may_0 : List UInt8 := dkwX12_may_0 ++ dktX12_may_1
theorem dksX12_may_0 : cX12_may.data.toList.drop 0 = dktX12_may_0 := by decide +kernel
theorem dksX12_may_1 : cX12_may.data.toList.drop 24 = dktX12_may_1 := dk_seg dksX12_may_0 24 rfl rfl
theorem dX12_may_0 : decode cX12_may 0 = .ok (.aload_n 0, 1) := dk_42 (dk_at dksX12_may_0 0 rfl rfl)
theorem dX12_may_1 : decode cX12_may 1 = .ok (.getfield 7, 3) := dk_180 0 7 (dk_at dksX12_may_0 1 rfl rfl)
theorem dX12_may_4 : decode cX12_may 4 = .ok (.aload_n 0, 1) := dk_42 (dk_at dksX12_may_0 4 rfl rfl)
theorem dX12_may_5 : decode cX12_may 5 = .ok (.getfield 7, 3) := dk_180 0 7 (dk_at dksX12_may_0 5 rfl rfl)
theorem dX12_may_8 : decode cX12_may 8 = .ok (.getfield 13, 3) := dk_180 0 13 (dk_at dksX12_may_0 8 rfl rfl)
theorem dX12_may_11 : decode cX12_may 11 = .ok (.aload_n 0, 1) := dk_42 (dk_at dksX12_may_0 11 rfl rfl)
theorem dX12_may_12 : decode cX12_may 12 = .ok (.getfield 7, 3) := dk_180 0 7 (dk_at dksX12_may_0 12 rfl rfl)
theorem dX12_may_15 : decode cX12_may 15 = .ok (.iload_n 2, 1) := dk_28 (dk_at dksX12_may_0 15 rfl rfl)
theorem dX12_may_16 : decode cX12_may 16 = .ok (.invokevirtual 19, 3) := dk_182 0 19 (dk_at dksX12_may_0 16 rfl rfl)
theorem dX12_may_19 : decode cX12_may 19 = .ok (.iconst (-1), 1) := dk_2 (dk_at dksX12_may_0 19 rfl rfl)
theorem dX12_may_20 : decode cX12_may 20 = .ok (.ixor, 1) := dk_130 (dk_at dksX12_may_0 20 rfl rfl)
theorem dX12_may_21 : decode cX12_may 21 = .ok (.iand, 1) := dk_126 (dk_at dksX12_may_0 21 rfl rfl)
theorem dX12_may_22 : decode cX12_may 22 = .ok (.iload_n 1, 1) := dk_27 (dk_at dksX12_may_0 22 rfl rfl)
theorem dX12_may_23 : decode cX12_may 23 = .ok (.ior, 1) := dk_128 (dk_at dksX12_may_0 23 rfl rfl)
theorem dX12_may_24 : decode cX12_may 24 = .ok (.putfield 13, 3) := dk_181 0 13 (dk_at dksX12_may_1 0 rfl rfl)
theorem dX12_may_27 : decode cX12_may 27 = .ok (.aload_n 0, 1) := dk_42 (dk_at dksX12_may_1 3 rfl rfl)
theorem dX12_may_28 : decode cX12_may 28 = .ok (.getfield 7, 3) := dk_180 0 7 (dk_at dksX12_may_1 4 rfl rfl)
theorem dX12_may_31 : decode cX12_may 31 = .ok (.iload_n 2, 1) := dk_28 (dk_at dksX12_may_1 7 rfl rfl)
theorem dX12_may_32 : decode cX12_may 32 = .ok (.iload_n 3, 1) := dk_29 (dk_at dksX12_may_1 8 rfl rfl)
theorem dX12_may_33 : decode cX12_may 33 = .ok (.iload 4, 2) := dk_21 4 (dk_at dksX12_may_1 9 rfl rfl)
theorem dX12_may_35 : decode cX12_may 35 = .ok (.invokevirtual 23, 3) := dk_182 0 23 (dk_at dksX12_may_1 11 rfl rfl)
theorem dX12_may_38 : decode cX12_may 38 = .ok (.ifCond .ne 7, 3) := dk_154 0 7 (dk_at dksX12_may_1 14 rfl rfl)
theorem dX12_may_41 : decode cX12_may 41 = .ok (.iconst 1, 1) := dk_4 (dk_at dksX12_may_1 17 rfl rfl)
theorem dX12_may_42 : decode cX12_may 42 = .ok (.goto 4, 3) := dk_167 0 4 (dk_at dksX12_may_1 18 rfl rfl)
theorem dX12_may_45 : decode cX12_may 45 = .ok (.iconst 0, 1) := dk_3 (dk_at dksX12_may_1 21 rfl rfl)
theorem dX12_may_46 : decode cX12_may 46 = .ok (.ireturn, 1) := dk_172 (dk_at dksX12_may_1 22 rfl rfl)
theorem q134 : (Jvm.Cond.initialized "SaltedGate$Hiding") ∈ lw_all := lw_g (lw_at lw_m1 15 rfl) rfl
theorem q292 : (Jvm.Cond.fieldLink "SaltedGate$Hiding" (13 : Nat) "SaltedGate$Load" "hidden" "I") ∈ lw_all := lw_g (lw_at lw_m1 173 rfl) rfl
theorem q394 : (Jvm.Cond.fieldLink "SaltedGate$Hiding" (7 : Nat) "SaltedGate$Hiding" "load" "LSaltedGate$Load;") ∈ lw_all := lw_g (lw_at lw_m2 35 rfl) rfl
theorem q395 : (Jvm.Cond.sameField "SaltedGate$Hiding" "SaltedGate$Choice" "load" "LSaltedGate$Load;") ∈ lw_all := lw_g (lw_at lw_m2 36 rfl) rfl
theorem q411 : (Jvm.Cond.instantiable "SaltedGate$Hiding" (4 : Nat)) ∈ lw_all := lw_g (lw_at lw_m2 52 rfl) rfl
theorem q413 : (Jvm.Cond.instanceMethod ({ cls := "SaltedGate$Hiding", name := "<init>", desc := "()V" } : Jvm.MethodName)) ∈ lw_all := lw_g (lw_at lw_m2 54 rfl) rfl
theorem q414 : (Jvm.Cond.code ({ cls := "SaltedGate$Hiding", name := "<init>", desc := "()V" } : Jvm.MethodName) prog_11_method_1_code (1 : Nat) (Option.none : Option Jvm.ClassFile.FieldType)) ∈ lw_all := lw_g (lw_at lw_m2 55 rfl) rfl
theorem q415 : (Jvm.Cond.methodLinkNest "SaltedGate$Hiding" (1 : Nat) ({ cls := "SaltedGate$Choice", name := "<init>", desc := "()V" } : Jvm.MethodName) "SaltedGate") ∈ lw_tbl := lw_at lw_m2 56 rfl
theorem q416 : (Jvm.Cond.laysFinal "SaltedGate$Hiding" "SaltedGate$Choice" "load" "LSaltedGate$Load;") ∈ lw_all := lw_g (lw_at lw_m2 57 rfl) rfl
theorem q417 : (Jvm.Cond.lays "SaltedGate$Hiding" "SaltedGate$Choice" "barrier" "LSaltedGate$Barrier;") ∈ lw_all := lw_g (lw_at lw_m2 58 rfl) rfl
theorem q418 : (Jvm.Cond.lays "SaltedGate$Hiding" "SaltedGate$Choice" "best" "I") ∈ lw_all := lw_g (lw_at lw_m2 59 rfl) rfl
theorem q419 : (Jvm.Cond.lays "SaltedGate$Hiding" "SaltedGate$Choice" "least" "I") ∈ lw_all := lw_g (lw_at lw_m2 60 rfl) rfl
theorem q420 : (Jvm.Cond.superclass "SaltedGate$Hiding" "SaltedGate$Choice") ∈ lw_all := lw_g (lw_at lw_m2 61 rfl) rfl
theorem q1454 : (Jvm.Cond.selects "SaltedGate$Hiding" ({ cls := "SaltedGate$Choice", name := "seek", desc := "(LSaltedGate$Barrier;LSaltedGate$Load;LSaltedGate$Law;III)V" } : Jvm.MethodName) ({ cls := "SaltedGate$Choice", name := "seek", desc := "(LSaltedGate$Barrier;LSaltedGate$Load;LSaltedGate$Law;III)V" } : Jvm.MethodName)) ∈ lw_all := lw_g (lw_at lw_m6 135 rfl) rfl
theorem q1481 : (Jvm.Cond.selects "SaltedGate$Hiding" ({ cls := "SaltedGate$Choice", name := "may", desc := "(IIII)Z" } : Jvm.MethodName) ({ cls := "SaltedGate$Hiding", name := "may", desc := "(IIII)Z" } : Jvm.MethodName)) ∈ lw_all := lw_g (lw_at lw_m6 162 rfl) rfl
theorem q1482 : (Jvm.Cond.instanceMethod ({ cls := "SaltedGate$Hiding", name := "may", desc := "(IIII)Z" } : Jvm.MethodName)) ∈ lw_all := lw_g (lw_at lw_m6 163 rfl) rfl
theorem q1483 : (Jvm.Cond.code ({ cls := "SaltedGate$Hiding", name := "may", desc := "(IIII)Z" } : Jvm.MethodName) prog_11_method_2_code (5 : Nat) (Option.some Jvm.ClassFile.FieldType.boolean)) ∈ lw_all := lw_g (lw_at lw_m6 164 rfl) rfl
theorem q1484 : (Jvm.Cond.methodLink "SaltedGate$Hiding" (19 : Nat) ({ cls := "SaltedGate$Load", name := "has", desc := "(I)I" } : Jvm.MethodName)) ∈ lw_all := lw_g (lw_at lw_m6 165 rfl) rfl
theorem q1485 : (Jvm.Cond.methodLink "SaltedGate$Hiding" (23 : Nat) ({ cls := "SaltedGate$Load", name := "found", desc := "(III)I" } : Jvm.MethodName)) ∈ lw_all := lw_g (lw_at lw_m6 166 rfl) rfl
theorem q1493 : (Jvm.Cond.selects "SaltedGate$Hiding" ({ cls := "SaltedGate$Choice", name := "best", desc := "()I" } : Jvm.MethodName) ({ cls := "SaltedGate$Choice", name := "best", desc := "()I" } : Jvm.MethodName)) ∈ lw_all := lw_g (lw_at lw_m6 174 rfl) rfl
theorem q1503 : (Jvm.Cond.selects "SaltedGate$Hiding" ({ cls := "SaltedGate$Choice", name := "least", desc := "()I" } : Jvm.MethodName) ({ cls := "SaltedGate$Choice", name := "least", desc := "()I" } : Jvm.MethodName)) ∈ lw_all := lw_g (lw_at lw_m6 184 rfl) rfl
theorem q2569 : (Jvm.Cond.castable "SaltedGate$Hiding" "java/lang/Object") ∈ lw_tbl := lw_at lw_m11 50 rfl
theorem in_X12 : ∀ w ∈ wsX120, w ∈ lw_all := lw_in wsX120 [416, 417, 418, 419] (by decide +kernel) (by decide +kernel)
