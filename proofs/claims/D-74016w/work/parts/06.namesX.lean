/-! MaskedEarsLaw -/
set_option maxRecDepth 100000
def RX0 : String := "MaskedEarsLaw"
abbrev cX0_unproved : ByteArray := method_3_code
def yX0_unproved : MethodName := ⟨RX0, "unproved", "(LMaskedEars;I[J)I"⟩
def dkwX0_unproved_0 : List UInt8 := [44, 3, 42, 27, 182, 0, 7, 133, 80, 167, 0, 6, 78, 4, 172, 3, 172]
abbrev dktX0_unproved_0 : List UInt8 := dkwX0_unproved_0 ++ []
theorem dksX0_unproved_0 : cX0_unproved.data.toList.drop 0 = dktX0_unproved_0 := by decide +kernel
theorem dX0_unproved_0 : decode cX0_unproved 0 = .ok (.aload_n 2, 1) := dk_44 (dk_at dksX0_unproved_0 0 rfl rfl)
theorem dX0_unproved_1 : decode cX0_unproved 1 = .ok (.iconst 0, 1) := dk_3 (dk_at dksX0_unproved_0 1 rfl rfl)
theorem dX0_unproved_2 : decode cX0_unproved 2 = .ok (.aload_n 0, 1) := dk_42 (dk_at dksX0_unproved_0 2 rfl rfl)
theorem dX0_unproved_3 : decode cX0_unproved 3 = .ok (.iload_n 1, 1) := dk_27 (dk_at dksX0_unproved_0 3 rfl rfl)
theorem dX0_unproved_4 : decode cX0_unproved 4 = .ok (.invokevirtual 7, 3) := dk_182 0 7 (dk_at dksX0_unproved_0 4 rfl rfl)
theorem dX0_unproved_7 : decode cX0_unproved 7 = .ok (.i2l, 1) := dk_133 (dk_at dksX0_unproved_0 7 rfl rfl)
theorem dX0_unproved_8 : decode cX0_unproved 8 = .ok (.lastore, 1) := dk_80 (dk_at dksX0_unproved_0 8 rfl rfl)
theorem dX0_unproved_9 : decode cX0_unproved 9 = .ok (.goto 6, 3) := dk_167 0 6 (dk_at dksX0_unproved_0 9 rfl rfl)
theorem dX0_unproved_12 : decode cX0_unproved 12 = .ok (.astore_n 3, 1) := dk_78 (dk_at dksX0_unproved_0 12 rfl rfl)
theorem dX0_unproved_13 : decode cX0_unproved 13 = .ok (.iconst 1, 1) := dk_4 (dk_at dksX0_unproved_0 13 rfl rfl)
theorem dX0_unproved_14 : decode cX0_unproved 14 = .ok (.ireturn, 1) := dk_172 (dk_at dksX0_unproved_0 14 rfl rfl)
theorem dX0_unproved_15 : decode cX0_unproved 15 = .ok (.iconst 0, 1) := dk_3 (dk_at dksX0_unproved_0 15 rfl rfl)
theorem dX0_unproved_16 : decode cX0_unproved 16 = .ok (.ireturn, 1) := dk_172 (dk_at dksX0_unproved_0 16 rfl rfl)
theorem q105 : (Jvm.Cond.initialized "MaskedEarsLaw") ∈ lw_all := lw_g (lw_at lw_m1 0 rfl) rfl
theorem q140 : (Jvm.Cond.classLink "MaskedEarsLaw" (8 : Nat) "MaskedEars") ∈ lw_all := lw_g (lw_at lw_m1 35 rfl) rfl
theorem q142 : (Jvm.Cond.methodLink "MaskedEarsLaw" (15 : Nat) ({ cls := "MaskedEars", name := "<init>", desc := "()V" } : Jvm.MethodName)) ∈ lw_all := lw_g (lw_at lw_m1 37 rfl) rfl
theorem q224 : (Jvm.Cond.methodLink "MaskedEarsLaw" (19 : Nat) ({ cls := "MaskedEars", name := "feed", desc := "(IIIII)I" } : Jvm.MethodName)) ∈ lw_all := lw_g (lw_at lw_m1 119 rfl) rfl
theorem q232 : (Jvm.Cond.methodLink "MaskedEarsLaw" (24 : Nat) ({ cls := "MaskedEars", name := "tester", desc := "(I)I" } : Jvm.MethodName)) ∈ lw_all := lw_g (lw_at lw_m1 127 rfl) rfl
theorem q972 : (Jvm.Cond.methodLink "MaskedEarsLaw" (28 : Nat) ({ cls := "MaskedEars", name := "fault", desc := "()I" } : Jvm.MethodName)) ∈ lw_all := lw_g (lw_at lw_m4 147 rfl) rfl
theorem q976 : (Jvm.Cond.methodLink "MaskedEarsLaw" (33 : Nat) ({ cls := "MaskedEars", name := "where", desc := "()I" } : Jvm.MethodName)) ∈ lw_all := lw_g (lw_at lw_m4 151 rfl) rfl
theorem q980 : (Jvm.Cond.methodLink "MaskedEarsLaw" (37 : Nat) ({ cls := "MaskedEars", name := "about", desc := "(I)I" } : Jvm.MethodName)) ∈ lw_all := lw_g (lw_at lw_m4 155 rfl) rfl
theorem q988 : (Jvm.Cond.methodLink "MaskedEarsLaw" (41 : Nat) ({ cls := "MaskedEars", name := "listener", desc := "(III)I" } : Jvm.MethodName)) ∈ lw_all := lw_g (lw_at lw_m4 163 rfl) rfl
theorem q997 : (Jvm.Cond.methodLink "MaskedEarsLaw" (46 : Nat) ({ cls := "MaskedEars", name := "hears", desc := "(IIIII)I" } : Jvm.MethodName)) ∈ lw_all := lw_g (lw_at lw_m4 172 rfl) rfl
theorem q1014 : (Jvm.Cond.methodLink "MaskedEarsLaw" (50 : Nat) ({ cls := "MaskedEars", name := "least", desc := "(IIII)I" } : Jvm.MethodName)) ∈ lw_all := lw_g (lw_at lw_m4 189 rfl) rfl
theorem q1027 : (Jvm.Cond.methodLink "MaskedEarsLaw" (55 : Nat) ({ cls := "MaskedEars", name := "quiets", desc := "(IIII)I" } : Jvm.MethodName)) ∈ lw_all := lw_g (lw_at lw_m4 202 rfl) rfl
theorem q1035 : (Jvm.Cond.methodLink "MaskedEarsLaw" (59 : Nat) ({ cls := "MaskedEars", name := "spoils", desc := "(IIII)I" } : Jvm.MethodName)) ∈ lw_all := lw_g (lw_at lw_m4 210 rfl) rfl
theorem q1039 : (Jvm.Cond.methodLink "MaskedEarsLaw" (63 : Nat) ({ cls := "MaskedEars", name := "search", desc := "(IIIIII)I" } : Jvm.MethodName)) ∈ lw_all := lw_g (lw_at lw_m4 214 rfl) rfl
theorem q1072 : (Jvm.Cond.methodLink "MaskedEarsLaw" (68 : Nat) ({ cls := "MaskedEars", name := "plateau", desc := "(IIII)I" } : Jvm.MethodName)) ∈ lw_all := lw_g (lw_at lw_m5 7 rfl) rfl
theorem q1076 : (Jvm.Cond.methodLink "MaskedEarsLaw" (72 : Nat) ({ cls := "MaskedEars", name := "zone", desc := "(IIIII)I" } : Jvm.MethodName)) ∈ lw_all := lw_g (lw_at lw_m5 11 rfl) rfl
theorem q1080 : (Jvm.Cond.methodLink "MaskedEarsLaw" (76 : Nat) ({ cls := "MaskedEars", name := "provable", desc := "(IIII)I" } : Jvm.MethodName)) ∈ lw_all := lw_g (lw_at lw_m5 15 rfl) rfl
theorem q1085 : (Jvm.Cond.methodLink "MaskedEarsLaw" (80 : Nat) ({ cls := "MaskedEars", name := "now", desc := "(I)I" } : Jvm.MethodName)) ∈ lw_all := lw_g (lw_at lw_m5 20 rfl) rfl
theorem q1091 : (Jvm.Cond.methodLink "MaskedEarsLaw" (84 : Nat) ({ cls := "MaskedEars", name := "tried", desc := "(II)I" } : Jvm.MethodName)) ∈ lw_all := lw_g (lw_at lw_m5 26 rfl) rfl
theorem q1096 : (Jvm.Cond.methodLink "MaskedEarsLaw" (89 : Nat) ({ cls := "MaskedEars", name := "answer", desc := "(Z)I" } : Jvm.MethodName)) ∈ lw_all := lw_g (lw_at lw_m5 31 rfl) rfl
theorem q1173 : (Jvm.Cond.methodLink "MaskedEarsLaw" (94 : Nat) ({ cls := "MaskedEars", name := "listen", desc := "()I" } : Jvm.MethodName)) ∈ lw_all := lw_g (lw_at lw_m5 108 rfl) rfl
theorem q1230 : (Jvm.Cond.methodLink "MaskedEarsLaw" (98 : Nat) ({ cls := "MaskedEars", name := "run", desc := "(I)I" } : Jvm.MethodName)) ∈ lw_all := lw_g (lw_at lw_m5 165 rfl) rfl
theorem q1234 : (Jvm.Cond.methodLink "MaskedEarsLaw" (102 : Nat) ({ cls := "MaskedEars", name := "give", desc := "()I" } : Jvm.MethodName)) ∈ lw_all := lw_g (lw_at lw_m5 169 rfl) rfl
theorem q1243 : (Jvm.Cond.methodLink "MaskedEarsLaw" (106 : Nat) ({ cls := "MaskedEars", name := "again", desc := "(I)I" } : Jvm.MethodName)) ∈ lw_all := lw_g (lw_at lw_m5 178 rfl) rfl
theorem q1252 : (Jvm.Cond.methodLink "MaskedEarsLaw" (110 : Nat) ({ cls := "MaskedEars", name := "task", desc := "(II)I" } : Jvm.MethodName)) ∈ lw_all := lw_g (lw_at lw_m5 187 rfl) rfl
theorem q1256 : (Jvm.Cond.methodLink "MaskedEarsLaw" (114 : Nat) ({ cls := "MaskedEars", name := "find", desc := "(IIIZ)I" } : Jvm.MethodName)) ∈ lw_all := lw_g (lw_at lw_m5 191 rfl) rfl
theorem q1262 : (Jvm.Cond.methodLink "MaskedEarsLaw" (119 : Nat) ({ cls := "MaskedEars", name := "doubts", desc := "(II)I" } : Jvm.MethodName)) ∈ lw_all := lw_g (lw_at lw_m5 197 rfl) rfl
theorem q1282 : (Jvm.Cond.methodLink "MaskedEarsLaw" (123 : Nat) ({ cls := "MaskedEars", name := "doubtful", desc := "()I" } : Jvm.MethodName)) ∈ lw_all := lw_g (lw_at lw_m5 217 rfl) rfl
theorem q1291 : (Jvm.Cond.methodLink "MaskedEarsLaw" (127 : Nat) ({ cls := "MaskedEars", name := "redo", desc := "()I" } : Jvm.MethodName)) ∈ lw_all := lw_g (lw_at lw_m5 226 rfl) rfl
theorem q1301 : (Jvm.Cond.methodLink "MaskedEarsLaw" (131 : Nat) ({ cls := "MaskedEars", name := "told", desc := "(III)I" } : Jvm.MethodName)) ∈ lw_all := lw_g (lw_at lw_m5 236 rfl) rfl
theorem q1306 : (Jvm.Cond.methodLink "MaskedEarsLaw" (135 : Nat) ({ cls := "MaskedEars", name := "needs", desc := "(III)I" } : Jvm.MethodName)) ∈ lw_all := lw_g (lw_at lw_m6 1 rfl) rfl
theorem q1312 : (Jvm.Cond.methodLink "MaskedEarsLaw" (139 : Nat) ({ cls := "MaskedEars", name := "noise", desc := "(III)I" } : Jvm.MethodName)) ∈ lw_all := lw_g (lw_at lw_m6 7 rfl) rfl
theorem q1319 : (Jvm.Cond.methodLink "MaskedEarsLaw" (143 : Nat) ({ cls := "MaskedEars", name := "apart", desc := "(II)I" } : Jvm.MethodName)) ∈ lw_all := lw_g (lw_at lw_m6 14 rfl) rfl
theorem q1326 : (Jvm.Cond.methodLink "MaskedEarsLaw" (147 : Nat) ({ cls := "MaskedEars", name := "loss", desc := "(II)I" } : Jvm.MethodName)) ∈ lw_all := lw_g (lw_at lw_m6 21 rfl) rfl
theorem q1330 : (Jvm.Cond.methodLink "MaskedEarsLaw" (151 : Nat) ({ cls := "MaskedEars", name := "mean", desc := "(II)I" } : Jvm.MethodName)) ∈ lw_all := lw_g (lw_at lw_m6 25 rfl) rfl
theorem q1338 : (Jvm.Cond.methodLink "MaskedEarsLaw" (159 : Nat) ({ cls := "MaskedEars", name := "grade", desc := "(I)I" } : Jvm.MethodName)) ∈ lw_all := lw_g (lw_at lw_m6 33 rfl) rfl
theorem q1342 : (Jvm.Cond.methodLink "MaskedEarsLaw" (155 : Nat) ({ cls := "MaskedEars", name := "worse", desc := "()I" } : Jvm.MethodName)) ∈ lw_all := lw_g (lw_at lw_m6 37 rfl) rfl
theorem q1346 : (Jvm.Cond.methodLink "MaskedEarsLaw" (163 : Nat) ({ cls := "MaskedEars", name := "right", desc := "(I)I" } : Jvm.MethodName)) ∈ lw_all := lw_g (lw_at lw_m6 41 rfl) rfl
theorem q1350 : (Jvm.Cond.methodLink "MaskedEarsLaw" (167 : Nat) ({ cls := "MaskedEars", name := "left", desc := "()I" } : Jvm.MethodName)) ∈ lw_all := lw_g (lw_at lw_m6 45 rfl) rfl
theorem q1365 : (Jvm.Cond.methodLink "MaskedEarsLaw" (171 : Nat) ({ cls := "MaskedEars", name := "chart", desc := "(II)I" } : Jvm.MethodName)) ∈ lw_all := lw_g (lw_at lw_m6 60 rfl) rfl
theorem q1373 : (Jvm.Cond.methodLink "MaskedEarsLaw" (175 : Nat) ({ cls := "MaskedEars", name := "mark", desc := "()I" } : Jvm.MethodName)) ∈ lw_all := lw_g (lw_at lw_m6 68 rfl) rfl
theorem q1381 : (Jvm.Cond.methodLink "MaskedEarsLaw" (179 : Nat) ({ cls := "MaskedEars", name := "shift", desc := "(III)I" } : Jvm.MethodName)) ∈ lw_all := lw_g (lw_at lw_m6 76 rfl) rfl
theorem q1389 : (Jvm.Cond.methodLink "MaskedEarsLaw" (183 : Nat) ({ cls := "MaskedEars", name := "worsened", desc := "(II)I" } : Jvm.MethodName)) ∈ lw_all := lw_g (lw_at lw_m6 84 rfl) rfl
theorem q1393 : (Jvm.Cond.methodLink "MaskedEarsLaw" (187 : Nat) ({ cls := "MaskedEars", name := "steepest", desc := "(I)I" } : Jvm.MethodName)) ∈ lw_all := lw_g (lw_at lw_m6 88 rfl) rfl
theorem q1401 : (Jvm.Cond.methodLink "MaskedEarsLaw" (191 : Nat) ({ cls := "MaskedEars", name := "log", desc := "(II)I" } : Jvm.MethodName)) ∈ lw_all := lw_g (lw_at lw_m6 96 rfl) rfl
theorem q1439 : (Jvm.Cond.methodLink "MaskedEarsLaw" (204 : Nat) ({ cls := "MaskedEars", name := "size", desc := "(I)I" } : Jvm.MethodName)) ∈ lw_all := lw_g (lw_at lw_m6 134 rfl) rfl
theorem q1443 : (Jvm.Cond.methodLink "MaskedEarsLaw" (208 : Nat) ({ cls := "MaskedEars", name := "trouble", desc := "()I" } : Jvm.MethodName)) ∈ lw_all := lw_g (lw_at lw_m6 138 rfl) rfl
theorem q1447 : (Jvm.Cond.methodLink "MaskedEarsLaw" (195 : Nat) ({ cls := "MaskedEarsLaw", name := "unproved", desc := "(LMaskedEars;I[J)I" } : Jvm.MethodName)) ∈ lw_all := lw_g (lw_at lw_m6 142 rfl) rfl
theorem q1448 : (Jvm.Cond.static ({ cls := "MaskedEarsLaw", name := "unproved", desc := "(LMaskedEars;I[J)I" } : Jvm.MethodName)) ∈ lw_all := lw_g (lw_at lw_m6 143 rfl) rfl
theorem q1449 : (Jvm.Cond.codeWith ({ cls := "MaskedEarsLaw", name := "unproved", desc := "(LMaskedEars;I[J)I" } : Jvm.MethodName) method_3_code (4 : Nat) (Option.some Jvm.ClassFile.FieldType.int) [((0 : Nat), (9 : Nat), (12 : Nat), (13 : Nat))]) ∈ lw_all := lw_g (lw_at lw_m6 144 rfl) rfl
theorem q1450 : (Jvm.Cond.classLink "MaskedEarsLaw" (13 : Nat) "java/util/NoSuchElementException") ∈ lw_all := lw_g (lw_at lw_m6 145 rfl) rfl
theorem q1451 : (Jvm.Cond.methodLink "MaskedEarsLaw" (7 : Nat) ({ cls := "MaskedEars", name := "unproved", desc := "(I)I" } : Jvm.MethodName)) ∈ lw_all := lw_g (lw_at lw_m6 146 rfl) rfl
theorem q1457 : (Jvm.Cond.classLink "MaskedEarsLaw" (16 : Nat) "MaskedEarsModel") ∈ lw_all := lw_g (lw_at lw_m6 152 rfl) rfl
theorem q1459 : (Jvm.Cond.methodLink "MaskedEarsLaw" (18 : Nat) ({ cls := "MaskedEarsModel", name := "<init>", desc := "()V" } : Jvm.MethodName)) ∈ lw_all := lw_g (lw_at lw_m6 154 rfl) rfl
theorem q1542 : (Jvm.Cond.methodLink "MaskedEarsLaw" (201 : Nat) ({ cls := "MaskedEarsModel", name := "thrown", desc := "()I" } : Jvm.MethodName)) ∈ lw_all := lw_g (lw_at lw_m6 237 rfl) rfl
theorem q1546 : (Jvm.Cond.methodLink "MaskedEarsLaw" (23 : Nat) ({ cls := "MaskedEarsModel", name := "feed", desc := "(IIIII)I" } : Jvm.MethodName)) ∈ lw_all := lw_g (lw_at lw_m7 1 rfl) rfl
theorem q1554 : (Jvm.Cond.methodLink "MaskedEarsLaw" (27 : Nat) ({ cls := "MaskedEarsModel", name := "tester", desc := "(I)I" } : Jvm.MethodName)) ∈ lw_all := lw_g (lw_at lw_m7 9 rfl) rfl
theorem q1680 : (Jvm.Cond.methodLink "MaskedEarsLaw" (32 : Nat) ({ cls := "MaskedEarsModel", name := "fault", desc := "()I" } : Jvm.MethodName)) ∈ lw_all := lw_g (lw_at lw_m7 135 rfl) rfl
theorem q1684 : (Jvm.Cond.methodLink "MaskedEarsLaw" (36 : Nat) ({ cls := "MaskedEarsModel", name := "where", desc := "()I" } : Jvm.MethodName)) ∈ lw_all := lw_g (lw_at lw_m7 139 rfl) rfl
theorem q1688 : (Jvm.Cond.methodLink "MaskedEarsLaw" (45 : Nat) ({ cls := "MaskedEarsModel", name := "listener", desc := "(III)I" } : Jvm.MethodName)) ∈ lw_all := lw_g (lw_at lw_m7 143 rfl) rfl
theorem q1707 : (Jvm.Cond.methodLink "MaskedEarsLaw" (49 : Nat) ({ cls := "MaskedEarsModel", name := "hears", desc := "(IIIII)I" } : Jvm.MethodName)) ∈ lw_all := lw_g (lw_at lw_m7 162 rfl) rfl
theorem q1722 : (Jvm.Cond.methodLink "MaskedEarsLaw" (54 : Nat) ({ cls := "MaskedEarsModel", name := "least", desc := "(IIII)I" } : Jvm.MethodName)) ∈ lw_all := lw_g (lw_at lw_m7 177 rfl) rfl
theorem q1726 : (Jvm.Cond.methodLink "MaskedEarsLaw" (58 : Nat) ({ cls := "MaskedEarsModel", name := "quiets", desc := "(IIII)I" } : Jvm.MethodName)) ∈ lw_all := lw_g (lw_at lw_m7 181 rfl) rfl
theorem q1734 : (Jvm.Cond.methodLink "MaskedEarsLaw" (62 : Nat) ({ cls := "MaskedEarsModel", name := "spoils", desc := "(IIII)I" } : Jvm.MethodName)) ∈ lw_all := lw_g (lw_at lw_m7 189 rfl) rfl
theorem q1738 : (Jvm.Cond.methodLink "MaskedEarsLaw" (71 : Nat) ({ cls := "MaskedEarsModel", name := "plateau", desc := "(IIII)I" } : Jvm.MethodName)) ∈ lw_all := lw_g (lw_at lw_m7 193 rfl) rfl
theorem q1750 : (Jvm.Cond.methodLink "MaskedEarsLaw" (75 : Nat) ({ cls := "MaskedEarsModel", name := "zone", desc := "(IIIII)I" } : Jvm.MethodName)) ∈ lw_all := lw_g (lw_at lw_m7 205 rfl) rfl
theorem q1754 : (Jvm.Cond.methodLink "MaskedEarsLaw" (83 : Nat) ({ cls := "MaskedEarsModel", name := "now", desc := "(I)I" } : Jvm.MethodName)) ∈ lw_all := lw_g (lw_at lw_m7 209 rfl) rfl
theorem q1762 : (Jvm.Cond.methodLink "MaskedEarsLaw" (88 : Nat) ({ cls := "MaskedEarsModel", name := "tried", desc := "(II)I" } : Jvm.MethodName)) ∈ lw_all := lw_g (lw_at lw_m7 217 rfl) rfl
theorem q1772 : (Jvm.Cond.methodLink "MaskedEarsLaw" (93 : Nat) ({ cls := "MaskedEarsModel", name := "answer", desc := "(Z)I" } : Jvm.MethodName)) ∈ lw_all := lw_g (lw_at lw_m7 227 rfl) rfl
theorem q1808 : (Jvm.Cond.methodLink "MaskedEarsLaw" (97 : Nat) ({ cls := "MaskedEarsModel", name := "listen", desc := "()I" } : Jvm.MethodName)) ∈ lw_all := lw_g (lw_at lw_m8 23 rfl) rfl
theorem q1820 : (Jvm.Cond.methodLink "MaskedEarsLaw" (101 : Nat) ({ cls := "MaskedEarsModel", name := "run", desc := "(I)I" } : Jvm.MethodName)) ∈ lw_all := lw_g (lw_at lw_m8 35 rfl) rfl
theorem q1824 : (Jvm.Cond.methodLink "MaskedEarsLaw" (105 : Nat) ({ cls := "MaskedEarsModel", name := "give", desc := "()I" } : Jvm.MethodName)) ∈ lw_all := lw_g (lw_at lw_m8 39 rfl) rfl
theorem q1828 : (Jvm.Cond.methodLink "MaskedEarsLaw" (109 : Nat) ({ cls := "MaskedEarsModel", name := "again", desc := "(I)I" } : Jvm.MethodName)) ∈ lw_all := lw_g (lw_at lw_m8 43 rfl) rfl
theorem q1832 : (Jvm.Cond.methodLink "MaskedEarsLaw" (67 : Nat) ({ cls := "MaskedEarsModel", name := "search", desc := "(IIIIII)I" } : Jvm.MethodName)) ∈ lw_all := lw_g (lw_at lw_m8 47 rfl) rfl
theorem q1840 : (Jvm.Cond.methodLink "MaskedEarsLaw" (79 : Nat) ({ cls := "MaskedEarsModel", name := "provable", desc := "(IIII)I" } : Jvm.MethodName)) ∈ lw_all := lw_g (lw_at lw_m8 55 rfl) rfl
theorem q1844 : (Jvm.Cond.methodLink "MaskedEarsLaw" (40 : Nat) ({ cls := "MaskedEarsModel", name := "about", desc := "(I)I" } : Jvm.MethodName)) ∈ lw_all := lw_g (lw_at lw_m8 59 rfl) rfl
theorem q1852 : (Jvm.Cond.methodLink "MaskedEarsLaw" (113 : Nat) ({ cls := "MaskedEarsModel", name := "task", desc := "(II)I" } : Jvm.MethodName)) ∈ lw_all := lw_g (lw_at lw_m8 67 rfl) rfl
theorem q1856 : (Jvm.Cond.methodLink "MaskedEarsLaw" (118 : Nat) ({ cls := "MaskedEarsModel", name := "find", desc := "(IIIZ)I" } : Jvm.MethodName)) ∈ lw_all := lw_g (lw_at lw_m8 71 rfl) rfl
theorem q1864 : (Jvm.Cond.methodLink "MaskedEarsLaw" (134 : Nat) ({ cls := "MaskedEarsModel", name := "told", desc := "(III)I" } : Jvm.MethodName)) ∈ lw_all := lw_g (lw_at lw_m8 79 rfl) rfl
theorem q1872 : (Jvm.Cond.methodLink "MaskedEarsLaw" (138 : Nat) ({ cls := "MaskedEarsModel", name := "needs", desc := "(III)I" } : Jvm.MethodName)) ∈ lw_all := lw_g (lw_at lw_m8 87 rfl) rfl
theorem q1880 : (Jvm.Cond.methodLink "MaskedEarsLaw" (142 : Nat) ({ cls := "MaskedEarsModel", name := "noise", desc := "(III)I" } : Jvm.MethodName)) ∈ lw_all := lw_g (lw_at lw_m8 95 rfl) rfl
theorem q1884 : (Jvm.Cond.methodLink "MaskedEarsLaw" (146 : Nat) ({ cls := "MaskedEarsModel", name := "apart", desc := "(II)I" } : Jvm.MethodName)) ∈ lw_all := lw_g (lw_at lw_m8 99 rfl) rfl
theorem q1891 : (Jvm.Cond.methodLink "MaskedEarsLaw" (150 : Nat) ({ cls := "MaskedEarsModel", name := "loss", desc := "(II)I" } : Jvm.MethodName)) ∈ lw_all := lw_g (lw_at lw_m8 106 rfl) rfl
theorem q1895 : (Jvm.Cond.methodLink "MaskedEarsLaw" (122 : Nat) ({ cls := "MaskedEarsModel", name := "doubts", desc := "(II)I" } : Jvm.MethodName)) ∈ lw_all := lw_g (lw_at lw_m8 110 rfl) rfl
theorem q1911 : (Jvm.Cond.methodLink "MaskedEarsLaw" (126 : Nat) ({ cls := "MaskedEarsModel", name := "doubtful", desc := "()I" } : Jvm.MethodName)) ∈ lw_all := lw_g (lw_at lw_m8 126 rfl) rfl
theorem q1923 : (Jvm.Cond.methodLink "MaskedEarsLaw" (130 : Nat) ({ cls := "MaskedEarsModel", name := "redo", desc := "()I" } : Jvm.MethodName)) ∈ lw_all := lw_g (lw_at lw_m8 138 rfl) rfl
theorem q1927 : (Jvm.Cond.methodLink "MaskedEarsLaw" (162 : Nat) ({ cls := "MaskedEarsModel", name := "grade", desc := "(I)I" } : Jvm.MethodName)) ∈ lw_all := lw_g (lw_at lw_m8 142 rfl) rfl
theorem q1935 : (Jvm.Cond.methodLink "MaskedEarsLaw" (154 : Nat) ({ cls := "MaskedEarsModel", name := "mean", desc := "(II)I" } : Jvm.MethodName)) ∈ lw_all := lw_g (lw_at lw_m8 150 rfl) rfl
theorem q1939 : (Jvm.Cond.methodLink "MaskedEarsLaw" (158 : Nat) ({ cls := "MaskedEarsModel", name := "worse", desc := "()I" } : Jvm.MethodName)) ∈ lw_all := lw_g (lw_at lw_m8 154 rfl) rfl
theorem q1943 : (Jvm.Cond.methodLink "MaskedEarsLaw" (166 : Nat) ({ cls := "MaskedEarsModel", name := "right", desc := "(I)I" } : Jvm.MethodName)) ∈ lw_all := lw_g (lw_at lw_m8 158 rfl) rfl
theorem q1947 : (Jvm.Cond.methodLink "MaskedEarsLaw" (170 : Nat) ({ cls := "MaskedEarsModel", name := "left", desc := "()I" } : Jvm.MethodName)) ∈ lw_all := lw_g (lw_at lw_m8 162 rfl) rfl
theorem q1951 : (Jvm.Cond.methodLink "MaskedEarsLaw" (174 : Nat) ({ cls := "MaskedEarsModel", name := "chart", desc := "(II)I" } : Jvm.MethodName)) ∈ lw_all := lw_g (lw_at lw_m8 166 rfl) rfl
theorem q1959 : (Jvm.Cond.methodLink "MaskedEarsLaw" (178 : Nat) ({ cls := "MaskedEarsModel", name := "mark", desc := "()I" } : Jvm.MethodName)) ∈ lw_all := lw_g (lw_at lw_m8 174 rfl) rfl
theorem q1963 : (Jvm.Cond.methodLink "MaskedEarsLaw" (182 : Nat) ({ cls := "MaskedEarsModel", name := "shift", desc := "(III)I" } : Jvm.MethodName)) ∈ lw_all := lw_g (lw_at lw_m8 178 rfl) rfl
theorem q1971 : (Jvm.Cond.methodLink "MaskedEarsLaw" (186 : Nat) ({ cls := "MaskedEarsModel", name := "worsened", desc := "(II)I" } : Jvm.MethodName)) ∈ lw_all := lw_g (lw_at lw_m8 186 rfl) rfl
theorem q1975 : (Jvm.Cond.methodLink "MaskedEarsLaw" (190 : Nat) ({ cls := "MaskedEarsModel", name := "steepest", desc := "(I)I" } : Jvm.MethodName)) ∈ lw_all := lw_g (lw_at lw_m8 190 rfl) rfl
theorem q1979 : (Jvm.Cond.methodLink "MaskedEarsLaw" (194 : Nat) ({ cls := "MaskedEarsModel", name := "log", desc := "(II)I" } : Jvm.MethodName)) ∈ lw_all := lw_g (lw_at lw_m8 194 rfl) rfl
theorem q1983 : (Jvm.Cond.methodLink "MaskedEarsLaw" (200 : Nat) ({ cls := "MaskedEarsModel", name := "unproved", desc := "(I)I" } : Jvm.MethodName)) ∈ lw_all := lw_g (lw_at lw_m8 198 rfl) rfl
theorem q1987 : (Jvm.Cond.methodLink "MaskedEarsLaw" (207 : Nat) ({ cls := "MaskedEarsModel", name := "size", desc := "(I)I" } : Jvm.MethodName)) ∈ lw_all := lw_g (lw_at lw_m8 202 rfl) rfl
theorem q1991 : (Jvm.Cond.methodLink "MaskedEarsLaw" (211 : Nat) ({ cls := "MaskedEarsModel", name := "trouble", desc := "()I" } : Jvm.MethodName)) ∈ lw_all := lw_g (lw_at lw_m8 206 rfl) rfl
/-! MaskedEars$Latest -/
set_option maxRecDepth 100000
def RX2 : String := "MaskedEars$Latest"
def TX2 : u_T := fun k => match k with
  | 0 => ("MaskedEars$Latest", "row", "Ljava/util/ArrayList;", true)
  | _ => ("MaskedEars$Latest", "most", "I", true)
def tyX2 : Nat → FieldType := fun k => match k with
  | 0 => .object "java/util/ArrayList"
  | _ => .int
abbrev wsX20 : List Cond := u_ws RX2 TX2 2
theorem nmX2 : ∀ a, a < 2 → ∀ b, b < 2 → a ≠ b → (TX2 a).2.1 ≠ (TX2 b).2.1 := by decide +kernel
theorem tyX2_ok : ∀ k, k < 2 → parseFieldDescriptor (TX2 k).2.2.1 = some (tyX2 k) := by decide +kernel
abbrev cX2_init : ByteArray := prog_4_method_1_code
def yX2_init : MethodName := ⟨RX2, "<init>", "(I)V"⟩
def dkwX2_init_0 : List UInt8 := [42, 183, 0, 1, 42, 187, 0, 7, 89, 183, 0, 9, 181, 0, 10, 42, 27, 181, 0, 16, 177]
abbrev dktX2_init_0 : List UInt8 := dkwX2_init_0 ++ []
theorem dksX2_init_0 : cX2_init.data.toList.drop 0 = dktX2_init_0 := by decide +kernel
theorem dX2_init_0 : decode cX2_init 0 = .ok (.aload_n 0, 1) := dk_42 (dk_at dksX2_init_0 0 rfl rfl)
theorem dX2_init_1 : decode cX2_init 1 = .ok (.invokespecial 1, 3) := dk_183 0 1 (dk_at dksX2_init_0 1 rfl rfl)
theorem dX2_init_4 : decode cX2_init 4 = .ok (.aload_n 0, 1) := dk_42 (dk_at dksX2_init_0 4 rfl rfl)
theorem dX2_init_5 : decode cX2_init 5 = .ok (.new 7, 3) := dk_187 0 7 (dk_at dksX2_init_0 5 rfl rfl)
theorem dX2_init_8 : decode cX2_init 8 = .ok (.dup, 1) := dk_89 (dk_at dksX2_init_0 8 rfl rfl)
theorem dX2_init_9 : decode cX2_init 9 = .ok (.invokespecial 9, 3) := dk_183 0 9 (dk_at dksX2_init_0 9 rfl rfl)
theorem dX2_init_12 : decode cX2_init 12 = .ok (.putfield 10, 3) := dk_181 0 10 (dk_at dksX2_init_0 12 rfl rfl)
theorem dX2_init_15 : decode cX2_init 15 = .ok (.aload_n 0, 1) := dk_42 (dk_at dksX2_init_0 15 rfl rfl)
theorem dX2_init_16 : decode cX2_init 16 = .ok (.iload_n 1, 1) := dk_27 (dk_at dksX2_init_0 16 rfl rfl)
theorem dX2_init_17 : decode cX2_init 17 = .ok (.putfield 16, 3) := dk_181 0 16 (dk_at dksX2_init_0 17 rfl rfl)
theorem dX2_init_20 : decode cX2_init 20 = .ok (.return_, 1) := dk_177 (dk_at dksX2_init_0 20 rfl rfl)
abbrev cX2_adds : ByteArray := prog_4_method_2_code
def yX2_adds : MethodName := ⟨RX2, "adds", "(LMaskedEars$Shown;)V"⟩
def dkwX2_adds_1 : List UInt8 := [180, 0, 10, 43, 182, 0, 28, 87, 177]
abbrev dktX2_adds_1 : List UInt8 := dkwX2_adds_1 ++ []
def dkwX2_adds_0 : List UInt8 := [42, 180, 0, 10, 182, 0, 20, 42, 180, 0, 16, 160, 0, 12, 42, 180, 0, 10, 3, 182, 0, 24, 87, 42]
abbrev dktX2_adds_0 : List UInt8 := dkwX2_adds_0 ++ dktX2_adds_1
theorem dksX2_adds_0 : cX2_adds.data.toList.drop 0 = dktX2_adds_0 := by decide +kernel
theorem dksX2_adds_1 : cX2_adds.data.toList.drop 24 = dktX2_adds_1 := dk_seg dksX2_adds_0 24 rfl rfl
theorem dX2_adds_0 : decode cX2_adds 0 = .ok (.aload_n 0, 1) := dk_42 (dk_at dksX2_adds_0 0 rfl rfl)
theorem dX2_adds_1 : decode cX2_adds 1 = .ok (.getfield 10, 3) := dk_180 0 10 (dk_at dksX2_adds_0 1 rfl rfl)
theorem dX2_adds_4 : decode cX2_adds 4 = .ok (.invokevirtual 20, 3) := dk_182 0 20 (dk_at dksX2_adds_0 4 rfl rfl)
theorem dX2_adds_7 : decode cX2_adds 7 = .ok (.aload_n 0, 1) := dk_42 (dk_at dksX2_adds_0 7 rfl rfl)
theorem dX2_adds_8 : decode cX2_adds 8 = .ok (.getfield 16, 3) := dk_180 0 16 (dk_at dksX2_adds_0 8 rfl rfl)
theorem dX2_adds_11 : decode cX2_adds 11 = .ok (.if_icmp .ne 12, 3) := dk_160 0 12 (dk_at dksX2_adds_0 11 rfl rfl)
theorem dX2_adds_14 : decode cX2_adds 14 = .ok (.aload_n 0, 1) := dk_42 (dk_at dksX2_adds_0 14 rfl rfl)
theorem dX2_adds_15 : decode cX2_adds 15 = .ok (.getfield 10, 3) := dk_180 0 10 (dk_at dksX2_adds_0 15 rfl rfl)
theorem dX2_adds_18 : decode cX2_adds 18 = .ok (.iconst 0, 1) := dk_3 (dk_at dksX2_adds_0 18 rfl rfl)
theorem dX2_adds_19 : decode cX2_adds 19 = .ok (.invokevirtual 24, 3) := dk_182 0 24 (dk_at dksX2_adds_0 19 rfl rfl)
theorem dX2_adds_22 : decode cX2_adds 22 = .ok (.pop, 1) := dk_87 (dk_at dksX2_adds_0 22 rfl rfl)
theorem dX2_adds_23 : decode cX2_adds 23 = .ok (.aload_n 0, 1) := dk_42 (dk_at dksX2_adds_0 23 rfl rfl)
theorem dX2_adds_24 : decode cX2_adds 24 = .ok (.getfield 10, 3) := dk_180 0 10 (dk_at dksX2_adds_1 0 rfl rfl)
theorem dX2_adds_27 : decode cX2_adds 27 = .ok (.aload_n 1, 1) := dk_43 (dk_at dksX2_adds_1 3 rfl rfl)
theorem dX2_adds_28 : decode cX2_adds 28 = .ok (.invokevirtual 28, 3) := dk_182 0 28 (dk_at dksX2_adds_1 4 rfl rfl)
theorem dX2_adds_31 : decode cX2_adds 31 = .ok (.pop, 1) := dk_87 (dk_at dksX2_adds_1 7 rfl rfl)
theorem dX2_adds_32 : decode cX2_adds 32 = .ok (.return_, 1) := dk_177 (dk_at dksX2_adds_1 8 rfl rfl)
abbrev cX2_many : ByteArray := prog_4_method_3_code
def yX2_many : MethodName := ⟨RX2, "many", "()I"⟩
def dkwX2_many_0 : List UInt8 := [42, 180, 0, 10, 182, 0, 20, 172]
abbrev dktX2_many_0 : List UInt8 := dkwX2_many_0 ++ []
theorem dksX2_many_0 : cX2_many.data.toList.drop 0 = dktX2_many_0 := by decide +kernel
theorem dX2_many_0 : decode cX2_many 0 = .ok (.aload_n 0, 1) := dk_42 (dk_at dksX2_many_0 0 rfl rfl)
theorem dX2_many_1 : decode cX2_many 1 = .ok (.getfield 10, 3) := dk_180 0 10 (dk_at dksX2_many_0 1 rfl rfl)
theorem dX2_many_4 : decode cX2_many 4 = .ok (.invokevirtual 20, 3) := dk_182 0 20 (dk_at dksX2_many_0 4 rfl rfl)
theorem dX2_many_7 : decode cX2_many 7 = .ok (.ireturn, 1) := dk_172 (dk_at dksX2_many_0 7 rfl rfl)
abbrev cX2_get : ByteArray := prog_4_method_4_code
def yX2_get : MethodName := ⟨RX2, "get", "(I)LMaskedEars$Shown;"⟩
def dkwX2_get_0 : List UInt8 := [42, 180, 0, 10, 42, 180, 0, 10, 182, 0, 20, 4, 100, 27, 100, 182, 0, 32, 192, 0, 35, 176]
abbrev dktX2_get_0 : List UInt8 := dkwX2_get_0 ++ []
theorem dksX2_get_0 : cX2_get.data.toList.drop 0 = dktX2_get_0 := by decide +kernel
theorem dX2_get_0 : decode cX2_get 0 = .ok (.aload_n 0, 1) := dk_42 (dk_at dksX2_get_0 0 rfl rfl)
theorem dX2_get_1 : decode cX2_get 1 = .ok (.getfield 10, 3) := dk_180 0 10 (dk_at dksX2_get_0 1 rfl rfl)
theorem dX2_get_4 : decode cX2_get 4 = .ok (.aload_n 0, 1) := dk_42 (dk_at dksX2_get_0 4 rfl rfl)
theorem dX2_get_5 : decode cX2_get 5 = .ok (.getfield 10, 3) := dk_180 0 10 (dk_at dksX2_get_0 5 rfl rfl)
theorem dX2_get_8 : decode cX2_get 8 = .ok (.invokevirtual 20, 3) := dk_182 0 20 (dk_at dksX2_get_0 8 rfl rfl)
theorem dX2_get_11 : decode cX2_get 11 = .ok (.iconst 1, 1) := dk_4 (dk_at dksX2_get_0 11 rfl rfl)
theorem dX2_get_12 : decode cX2_get 12 = .ok (.isub, 1) := dk_100 (dk_at dksX2_get_0 12 rfl rfl)
theorem dX2_get_13 : decode cX2_get 13 = .ok (.iload_n 1, 1) := dk_27 (dk_at dksX2_get_0 13 rfl rfl)
theorem dX2_get_14 : decode cX2_get 14 = .ok (.isub, 1) := dk_100 (dk_at dksX2_get_0 14 rfl rfl)
theorem dX2_get_15 : decode cX2_get 15 = .ok (.invokevirtual 32, 3) := dk_182 0 32 (dk_at dksX2_get_0 15 rfl rfl)
theorem dX2_get_18 : decode cX2_get 18 = .ok (.checkcast 35, 3) := dk_192 0 35 (dk_at dksX2_get_0 18 rfl rfl)
theorem dX2_get_21 : decode cX2_get 21 = .ok (.areturn, 1) := dk_176 (dk_at dksX2_get_0 21 rfl rfl)
theorem q107 : (Jvm.Cond.initialized "MaskedEars$Latest") ∈ lw_all := lw_g (lw_at lw_m1 2 rfl) rfl
theorem q149 : (Jvm.Cond.instantiable "MaskedEars$Latest" (2 : Nat)) ∈ lw_all := lw_g (lw_at lw_m1 44 rfl) rfl
theorem q151 : (Jvm.Cond.instanceMethod ({ cls := "MaskedEars$Latest", name := "<init>", desc := "(I)V" } : Jvm.MethodName)) ∈ lw_all := lw_g (lw_at lw_m1 46 rfl) rfl
theorem q152 : (Jvm.Cond.code ({ cls := "MaskedEars$Latest", name := "<init>", desc := "(I)V" } : Jvm.MethodName) prog_4_method_1_code (2 : Nat) (Option.none : Option Jvm.ClassFile.FieldType)) ∈ lw_all := lw_g (lw_at lw_m1 47 rfl) rfl
theorem q153 : (Jvm.Cond.methodLink "MaskedEars$Latest" (1 : Nat) ({ cls := "java/lang/Object", name := "<init>", desc := "()V" } : Jvm.MethodName)) ∈ lw_all := lw_g (lw_at lw_m1 48 rfl) rfl
theorem q154 : (Jvm.Cond.classLink "MaskedEars$Latest" (7 : Nat) "java/util/ArrayList") ∈ lw_all := lw_g (lw_at lw_m1 49 rfl) rfl
theorem q156 : (Jvm.Cond.methodLink "MaskedEars$Latest" (9 : Nat) ({ cls := "java/util/ArrayList", name := "<init>", desc := "()V" } : Jvm.MethodName)) ∈ lw_all := lw_g (lw_at lw_m1 51 rfl) rfl
theorem q184 : (Jvm.Cond.fieldLink "MaskedEars$Latest" (10 : Nat) "MaskedEars$Latest" "row" "Ljava/util/ArrayList;") ∈ lw_all := lw_g (lw_at lw_m1 79 rfl) rfl
theorem q185 : (Jvm.Cond.fieldLink "MaskedEars$Latest" (16 : Nat) "MaskedEars$Latest" "most" "I") ∈ lw_all := lw_g (lw_at lw_m1 80 rfl) rfl
theorem q186 : (Jvm.Cond.laysFinal "MaskedEars$Latest" "MaskedEars$Latest" "row" "Ljava/util/ArrayList;") ∈ lw_all := lw_g (lw_at lw_m1 81 rfl) rfl
theorem q187 : (Jvm.Cond.soleField "MaskedEars$Latest" "row") ∈ lw_all := lw_g (lw_at lw_m1 82 rfl) rfl
theorem q188 : (Jvm.Cond.laysFinal "MaskedEars$Latest" "MaskedEars$Latest" "most" "I") ∈ lw_all := lw_g (lw_at lw_m1 83 rfl) rfl
theorem q189 : (Jvm.Cond.soleField "MaskedEars$Latest" "most") ∈ lw_all := lw_g (lw_at lw_m1 84 rfl) rfl
theorem q190 : (Jvm.Cond.superclass "MaskedEars$Latest" "java/lang/Object") ∈ lw_all := lw_g (lw_at lw_m1 85 rfl) rfl
theorem q609 : (Jvm.Cond.selects "MaskedEars$Latest" ({ cls := "java/lang/Object", name := "getClass", desc := "()Ljava/lang/Class;" } : Jvm.MethodName) ({ cls := "java/lang/Object", name := "getClass", desc := "()Ljava/lang/Class;" } : Jvm.MethodName)) ∈ lw_all := lw_g (lw_at lw_m3 24 rfl) rfl
theorem q1138 : (Jvm.Cond.instanceMethod ({ cls := "MaskedEars$Latest", name := "adds", desc := "(LMaskedEars$Shown;)V" } : Jvm.MethodName)) ∈ lw_all := lw_g (lw_at lw_m5 73 rfl) rfl
theorem q1139 : (Jvm.Cond.selects "MaskedEars$Latest" ({ cls := "MaskedEars$Latest", name := "adds", desc := "(LMaskedEars$Shown;)V" } : Jvm.MethodName) ({ cls := "MaskedEars$Latest", name := "adds", desc := "(LMaskedEars$Shown;)V" } : Jvm.MethodName)) ∈ lw_all := lw_g (lw_at lw_m5 74 rfl) rfl
theorem q1140 : (Jvm.Cond.code ({ cls := "MaskedEars$Latest", name := "adds", desc := "(LMaskedEars$Shown;)V" } : Jvm.MethodName) prog_4_method_2_code (2 : Nat) (Option.none : Option Jvm.ClassFile.FieldType)) ∈ lw_all := lw_g (lw_at lw_m5 75 rfl) rfl
theorem q1141 : (Jvm.Cond.methodLink "MaskedEars$Latest" (20 : Nat) ({ cls := "java/util/ArrayList", name := "size", desc := "()I" } : Jvm.MethodName)) ∈ lw_all := lw_g (lw_at lw_m5 76 rfl) rfl
theorem q1142 : (Jvm.Cond.methodLink "MaskedEars$Latest" (24 : Nat) ({ cls := "java/util/ArrayList", name := "remove", desc := "(I)Ljava/lang/Object;" } : Jvm.MethodName)) ∈ lw_all := lw_g (lw_at lw_m5 77 rfl) rfl
theorem q1151 : (Jvm.Cond.methodLink "MaskedEars$Latest" (28 : Nat) ({ cls := "java/util/ArrayList", name := "add", desc := "(Ljava/lang/Object;)Z" } : Jvm.MethodName)) ∈ lw_all := lw_g (lw_at lw_m5 86 rfl) rfl
theorem q1206 : (Jvm.Cond.selects "MaskedEars$Latest" ({ cls := "java/lang/Object", name := "equals", desc := "(Ljava/lang/Object;)Z" } : Jvm.MethodName) ({ cls := "java/lang/Object", name := "equals", desc := "(Ljava/lang/Object;)Z" } : Jvm.MethodName)) ∈ lw_all := lw_g (lw_at lw_m5 141 rfl) rfl
theorem q1406 : (Jvm.Cond.instanceMethod ({ cls := "MaskedEars$Latest", name := "many", desc := "()I" } : Jvm.MethodName)) ∈ lw_all := lw_g (lw_at lw_m6 101 rfl) rfl
theorem q1407 : (Jvm.Cond.selects "MaskedEars$Latest" ({ cls := "MaskedEars$Latest", name := "many", desc := "()I" } : Jvm.MethodName) ({ cls := "MaskedEars$Latest", name := "many", desc := "()I" } : Jvm.MethodName)) ∈ lw_all := lw_g (lw_at lw_m6 102 rfl) rfl
theorem q1408 : (Jvm.Cond.code ({ cls := "MaskedEars$Latest", name := "many", desc := "()I" } : Jvm.MethodName) prog_4_method_3_code (1 : Nat) (Option.some Jvm.ClassFile.FieldType.int)) ∈ lw_all := lw_g (lw_at lw_m6 103 rfl) rfl
theorem q1410 : (Jvm.Cond.instanceMethod ({ cls := "MaskedEars$Latest", name := "get", desc := "(I)LMaskedEars$Shown;" } : Jvm.MethodName)) ∈ lw_all := lw_g (lw_at lw_m6 105 rfl) rfl
theorem q1411 : (Jvm.Cond.selects "MaskedEars$Latest" ({ cls := "MaskedEars$Latest", name := "get", desc := "(I)LMaskedEars$Shown;" } : Jvm.MethodName) ({ cls := "MaskedEars$Latest", name := "get", desc := "(I)LMaskedEars$Shown;" } : Jvm.MethodName)) ∈ lw_all := lw_g (lw_at lw_m6 106 rfl) rfl
theorem q1412 : (Jvm.Cond.code ({ cls := "MaskedEars$Latest", name := "get", desc := "(I)LMaskedEars$Shown;" } : Jvm.MethodName) prog_4_method_4_code (2 : Nat) (Option.some (Jvm.ClassFile.FieldType.object "MaskedEars$Shown"))) ∈ lw_all := lw_g (lw_at lw_m6 107 rfl) rfl
theorem q1413 : (Jvm.Cond.methodLink "MaskedEars$Latest" (32 : Nat) ({ cls := "java/util/ArrayList", name := "get", desc := "(I)Ljava/lang/Object;" } : Jvm.MethodName)) ∈ lw_all := lw_g (lw_at lw_m6 108 rfl) rfl
theorem q1414 : (Jvm.Cond.classLink "MaskedEars$Latest" (35 : Nat) "MaskedEars$Shown") ∈ lw_all := lw_g (lw_at lw_m6 109 rfl) rfl
theorem q1999 : (Jvm.Cond.castable "MaskedEars$Latest" "java/lang/Object") ∈ lw_tbl := lw_at lw_m8 214 rfl
theorem in_X2 : ∀ w ∈ wsX20, w ∈ lw_all := lw_in wsX20 [186, 188] (by decide +kernel) (by decide +kernel)
/-! MaskedEars$Reader -/
set_option maxRecDepth 100000
def RX4 : String := "MaskedEars$Reader"
def TX4 : u_T := fun k => match k with
  | 0 => ("MaskedEars$Reader", "size", "I", true)
  | 1 => ("MaskedEars$Reader", "t", "LMaskedEars$Told;", true)
  | 2 => ("MaskedEars$Reader", "hasEar", "[Z", true)
  | 3 => ("MaskedEars$Reader", "to", "I", false)
  | 4 => ("MaskedEars$Reader", "from", "I", false)
  | 5 => ("MaskedEars$Reader", "sort", "I", false)
  | 6 => ("MaskedEars$Reader", "value", "I", false)
  | 7 => ("MaskedEars$Reader", "word", "J", false)
  | _ => ("MaskedEars$Reader", "this$0", "LMaskedEars;", true)
def tyX4 : Nat → FieldType := fun k => match k with
  | 0 => .int
  | 1 => .object "MaskedEars$Told"
  | 2 => .array .boolean
  | 3 => .int
  | 4 => .int
  | 5 => .int
  | 6 => .int
  | 7 => .long
  | _ => .object "MaskedEars"
abbrev wsX40 : List Cond := u_ws RX4 TX4 9
theorem nmX4 : ∀ a, a < 9 → ∀ b, b < 9 → a ≠ b → (TX4 a).2.1 ≠ (TX4 b).2.1 := by decide +kernel
theorem tyX4_ok : ∀ k, k < 9 → parseFieldDescriptor (TX4 k).2.2.1 = some (tyX4 k) := by decide +kernel
abbrev cX4_init : ByteArray := prog_6_method_1_code
def yX4_init : MethodName := ⟨RX4, "<init>", "(LMaskedEars;I)V"⟩
def dkwX4_init_1 : List UInt8 := [181, 0, 22, 42, 28, 181, 0, 26, 177]
abbrev dktX4_init_1 : List UInt8 := dkwX4_init_1 ++ []
def dkwX4_init_0 : List UInt8 := [42, 43, 181, 0, 3, 42, 183, 0, 9, 42, 187, 0, 15, 89, 183, 0, 17, 181, 0, 18, 42, 5, 188, 4]
abbrev dktX4_init_0 : List UInt8 := dkwX4_init_0 ++ dktX4_init_1
theorem dksX4_init_0 : cX4_init.data.toList.drop 0 = dktX4_init_0 := by decide +kernel
theorem dksX4_init_1 : cX4_init.data.toList.drop 24 = dktX4_init_1 := dk_seg dksX4_init_0 24 rfl rfl
theorem dX4_init_0 : decode cX4_init 0 = .ok (.aload_n 0, 1) := dk_42 (dk_at dksX4_init_0 0 rfl rfl)
theorem dX4_init_1 : decode cX4_init 1 = .ok (.aload_n 1, 1) := dk_43 (dk_at dksX4_init_0 1 rfl rfl)
theorem dX4_init_2 : decode cX4_init 2 = .ok (.putfield 3, 3) := dk_181 0 3 (dk_at dksX4_init_0 2 rfl rfl)
theorem dX4_init_5 : decode cX4_init 5 = .ok (.aload_n 0, 1) := dk_42 (dk_at dksX4_init_0 5 rfl rfl)
theorem dX4_init_6 : decode cX4_init 6 = .ok (.invokespecial 9, 3) := dk_183 0 9 (dk_at dksX4_init_0 6 rfl rfl)
theorem dX4_init_9 : decode cX4_init 9 = .ok (.aload_n 0, 1) := dk_42 (dk_at dksX4_init_0 9 rfl rfl)
theorem dX4_init_10 : decode cX4_init 10 = .ok (.new 15, 3) := dk_187 0 15 (dk_at dksX4_init_0 10 rfl rfl)
theorem dX4_init_13 : decode cX4_init 13 = .ok (.dup, 1) := dk_89 (dk_at dksX4_init_0 13 rfl rfl)
theorem dX4_init_14 : decode cX4_init 14 = .ok (.invokespecial 17, 3) := dk_183 0 17 (dk_at dksX4_init_0 14 rfl rfl)
theorem dX4_init_17 : decode cX4_init 17 = .ok (.putfield 18, 3) := dk_181 0 18 (dk_at dksX4_init_0 17 rfl rfl)
theorem dX4_init_20 : decode cX4_init 20 = .ok (.aload_n 0, 1) := dk_42 (dk_at dksX4_init_0 20 rfl rfl)
theorem dX4_init_21 : decode cX4_init 21 = .ok (.iconst 2, 1) := dk_5 (dk_at dksX4_init_0 21 rfl rfl)
theorem dX4_init_22 : decode cX4_init 22 = .ok (.newarray .boolean, 2) := dk_188_4 (dk_at dksX4_init_0 22 rfl rfl)
theorem dX4_init_24 : decode cX4_init 24 = .ok (.putfield 22, 3) := dk_181 0 22 (dk_at dksX4_init_1 0 rfl rfl)
theorem dX4_init_27 : decode cX4_init 27 = .ok (.aload_n 0, 1) := dk_42 (dk_at dksX4_init_1 3 rfl rfl)
theorem dX4_init_28 : decode cX4_init 28 = .ok (.iload_n 2, 1) := dk_28 (dk_at dksX4_init_1 4 rfl rfl)
theorem dX4_init_29 : decode cX4_init 29 = .ok (.putfield 26, 3) := dk_181 0 26 (dk_at dksX4_init_1 5 rfl rfl)
theorem dX4_init_32 : decode cX4_init 32 = .ok (.return_, 1) := dk_177 (dk_at dksX4_init_1 8 rfl rfl)
abbrev cX4_read : ByteArray := prog_6_method_13_code
def yX4_read : MethodName := ⟨RX4, "read", "()LMaskedEars$Told;"⟩
def dkwX4_read_3 : List UInt8 := [153, 0, 7, 4, 167, 0, 4, 3, 16, 6, 182, 0, 90, 42, 180, 0, 18, 176]
abbrev dktX4_read_3 : List UInt8 := dkwX4_read_3 ++ []
def dkwX4_read_2 : List UInt8 := [180, 0, 18, 180, 0, 108, 158, 0, 25, 42, 180, 0, 22, 3, 51, 153, 0, 16, 42, 180, 0, 22, 4, 51]
abbrev dktX4_read_2 : List UInt8 := dkwX4_read_2 ++ dktX4_read_3
def dkwX4_read_1 : List UInt8 := [167, 255, 240, 42, 42, 180, 0, 48, 4, 160, 0, 7, 4, 167, 0, 4, 3, 4, 182, 0, 90, 42, 42]
abbrev dktX4_read_1 : List UInt8 := dkwX4_read_1 ++ dktX4_read_2
def dkwX4_read_0 : List UInt8 := [42, 182, 0, 94, 42, 182, 0, 105, 42, 180, 0, 48, 7, 160, 0, 14, 42, 182, 0, 94, 42, 182, 0, 105]
abbrev dktX4_read_0 : List UInt8 := dkwX4_read_0 ++ dktX4_read_1
theorem dksX4_read_0 : cX4_read.data.toList.drop 0 = dktX4_read_0 := by decide +kernel
theorem dksX4_read_1 : cX4_read.data.toList.drop 24 = dktX4_read_1 := dk_seg dksX4_read_0 24 rfl rfl
theorem dksX4_read_2 : cX4_read.data.toList.drop 47 = dktX4_read_2 := dk_seg dksX4_read_1 23 rfl rfl
theorem dksX4_read_3 : cX4_read.data.toList.drop 71 = dktX4_read_3 := dk_seg dksX4_read_2 24 rfl rfl
theorem dX4_read_0 : decode cX4_read 0 = .ok (.aload_n 0, 1) := dk_42 (dk_at dksX4_read_0 0 rfl rfl)
theorem dX4_read_1 : decode cX4_read 1 = .ok (.invokevirtual 94, 3) := dk_182 0 94 (dk_at dksX4_read_0 1 rfl rfl)
theorem dX4_read_4 : decode cX4_read 4 = .ok (.aload_n 0, 1) := dk_42 (dk_at dksX4_read_0 4 rfl rfl)
theorem dX4_read_5 : decode cX4_read 5 = .ok (.invokevirtual 105, 3) := dk_182 0 105 (dk_at dksX4_read_0 5 rfl rfl)
theorem dX4_read_8 : decode cX4_read 8 = .ok (.aload_n 0, 1) := dk_42 (dk_at dksX4_read_0 8 rfl rfl)
theorem dX4_read_9 : decode cX4_read 9 = .ok (.getfield 48, 3) := dk_180 0 48 (dk_at dksX4_read_0 9 rfl rfl)
theorem dX4_read_12 : decode cX4_read 12 = .ok (.iconst 4, 1) := dk_7 (dk_at dksX4_read_0 12 rfl rfl)
theorem dX4_read_13 : decode cX4_read 13 = .ok (.if_icmp .ne 14, 3) := dk_160 0 14 (dk_at dksX4_read_0 13 rfl rfl)
theorem dX4_read_16 : decode cX4_read 16 = .ok (.aload_n 0, 1) := dk_42 (dk_at dksX4_read_0 16 rfl rfl)
theorem dX4_read_17 : decode cX4_read 17 = .ok (.invokevirtual 94, 3) := dk_182 0 94 (dk_at dksX4_read_0 17 rfl rfl)
theorem dX4_read_20 : decode cX4_read 20 = .ok (.aload_n 0, 1) := dk_42 (dk_at dksX4_read_0 20 rfl rfl)
theorem dX4_read_21 : decode cX4_read 21 = .ok (.invokevirtual 105, 3) := dk_182 0 105 (dk_at dksX4_read_0 21 rfl rfl)
theorem dX4_read_24 : decode cX4_read 24 = .ok (.goto (-16), 3) := dk_167 255 240 (dk_at dksX4_read_1 0 rfl rfl)
theorem dX4_read_27 : decode cX4_read 27 = .ok (.aload_n 0, 1) := dk_42 (dk_at dksX4_read_1 3 rfl rfl)
theorem dX4_read_28 : decode cX4_read 28 = .ok (.aload_n 0, 1) := dk_42 (dk_at dksX4_read_1 4 rfl rfl)
theorem dX4_read_29 : decode cX4_read 29 = .ok (.getfield 48, 3) := dk_180 0 48 (dk_at dksX4_read_1 5 rfl rfl)
theorem dX4_read_32 : decode cX4_read 32 = .ok (.iconst 1, 1) := dk_4 (dk_at dksX4_read_1 8 rfl rfl)
theorem dX4_read_33 : decode cX4_read 33 = .ok (.if_icmp .ne 7, 3) := dk_160 0 7 (dk_at dksX4_read_1 9 rfl rfl)
theorem dX4_read_36 : decode cX4_read 36 = .ok (.iconst 1, 1) := dk_4 (dk_at dksX4_read_1 12 rfl rfl)
theorem dX4_read_37 : decode cX4_read 37 = .ok (.goto 4, 3) := dk_167 0 4 (dk_at dksX4_read_1 13 rfl rfl)
theorem dX4_read_40 : decode cX4_read 40 = .ok (.iconst 0, 1) := dk_3 (dk_at dksX4_read_1 16 rfl rfl)
theorem dX4_read_41 : decode cX4_read 41 = .ok (.iconst 1, 1) := dk_4 (dk_at dksX4_read_1 17 rfl rfl)
theorem dX4_read_42 : decode cX4_read 42 = .ok (.invokevirtual 90, 3) := dk_182 0 90 (dk_at dksX4_read_1 18 rfl rfl)
theorem dX4_read_45 : decode cX4_read 45 = .ok (.aload_n 0, 1) := dk_42 (dk_at dksX4_read_1 21 rfl rfl)
theorem dX4_read_46 : decode cX4_read 46 = .ok (.aload_n 0, 1) := dk_42 (dk_at dksX4_read_1 22 rfl rfl)
theorem dX4_read_47 : decode cX4_read 47 = .ok (.getfield 18, 3) := dk_180 0 18 (dk_at dksX4_read_2 0 rfl rfl)
theorem dX4_read_50 : decode cX4_read 50 = .ok (.getfield 108, 3) := dk_180 0 108 (dk_at dksX4_read_2 3 rfl rfl)
theorem dX4_read_53 : decode cX4_read 53 = .ok (.ifCond .le 25, 3) := dk_158 0 25 (dk_at dksX4_read_2 6 rfl rfl)
theorem dX4_read_56 : decode cX4_read 56 = .ok (.aload_n 0, 1) := dk_42 (dk_at dksX4_read_2 9 rfl rfl)
theorem dX4_read_57 : decode cX4_read 57 = .ok (.getfield 22, 3) := dk_180 0 22 (dk_at dksX4_read_2 10 rfl rfl)
theorem dX4_read_60 : decode cX4_read 60 = .ok (.iconst 0, 1) := dk_3 (dk_at dksX4_read_2 13 rfl rfl)
theorem dX4_read_61 : decode cX4_read 61 = .ok (.baload, 1) := dk_51 (dk_at dksX4_read_2 14 rfl rfl)
theorem dX4_read_62 : decode cX4_read 62 = .ok (.ifCond .eq 16, 3) := dk_153 0 16 (dk_at dksX4_read_2 15 rfl rfl)
theorem dX4_read_65 : decode cX4_read 65 = .ok (.aload_n 0, 1) := dk_42 (dk_at dksX4_read_2 18 rfl rfl)
theorem dX4_read_66 : decode cX4_read 66 = .ok (.getfield 22, 3) := dk_180 0 22 (dk_at dksX4_read_2 19 rfl rfl)
theorem dX4_read_69 : decode cX4_read 69 = .ok (.iconst 1, 1) := dk_4 (dk_at dksX4_read_2 22 rfl rfl)
theorem dX4_read_70 : decode cX4_read 70 = .ok (.baload, 1) := dk_51 (dk_at dksX4_read_2 23 rfl rfl)
theorem dX4_read_71 : decode cX4_read 71 = .ok (.ifCond .eq 7, 3) := dk_153 0 7 (dk_at dksX4_read_3 0 rfl rfl)
theorem dX4_read_74 : decode cX4_read 74 = .ok (.iconst 1, 1) := dk_4 (dk_at dksX4_read_3 3 rfl rfl)
theorem dX4_read_75 : decode cX4_read 75 = .ok (.goto 4, 3) := dk_167 0 4 (dk_at dksX4_read_3 4 rfl rfl)
theorem dX4_read_78 : decode cX4_read 78 = .ok (.iconst 0, 1) := dk_3 (dk_at dksX4_read_3 7 rfl rfl)
theorem dX4_read_79 : decode cX4_read 79 = .ok (.bipush 6, 2) := dk_16 6 (dk_at dksX4_read_3 8 rfl rfl)
theorem dX4_read_81 : decode cX4_read 81 = .ok (.invokevirtual 90, 3) := dk_182 0 90 (dk_at dksX4_read_3 10 rfl rfl)
theorem dX4_read_84 : decode cX4_read 84 = .ok (.aload_n 0, 1) := dk_42 (dk_at dksX4_read_3 13 rfl rfl)
theorem dX4_read_85 : decode cX4_read 85 = .ok (.getfield 18, 3) := dk_180 0 18 (dk_at dksX4_read_3 14 rfl rfl)
theorem dX4_read_88 : decode cX4_read 88 = .ok (.areturn, 1) := dk_176 (dk_at dksX4_read_3 17 rfl rfl)
abbrev cX4_go : ByteArray := prog_6_method_5_code
def yX4_go : MethodName := ⟨RX4, "go", "()V"⟩
def dkwX4_go_5 : List UInt8 := [167, 0, 4, 3, 181, 0, 48, 42, 89, 180, 0, 42, 4, 96, 181, 0, 42, 177]
abbrev dktX4_go_5 : List UInt8 := dkwX4_go_5 ++ []
def dkwX4_go_4 : List UInt8 := [42, 182, 0, 61, 167, 0, 35, 42, 42, 42, 180, 0, 42, 182, 0, 34, 16, 59, 160, 0, 7, 7]
abbrev dktX4_go_4 : List UInt8 := dkwX4_go_4 ++ dktX4_go_5
def dkwX4_go_3 : List UInt8 := [182, 0, 51, 153, 0, 10, 42, 182, 0, 55, 167, 0, 53, 42, 42, 180, 0, 42, 182, 0, 58, 153, 0, 10]
abbrev dktX4_go_3 : List UInt8 := dkwX4_go_3 ++ dktX4_go_4
def dkwX4_go_2 : List UInt8 := [180, 0, 42, 42, 180, 0, 26, 161, 0, 11, 42, 4, 181, 0, 48, 167, 0, 71, 42, 42, 180, 0, 42]
abbrev dktX4_go_2 : List UInt8 := dkwX4_go_2 ++ dktX4_go_3
def dkwX4_go_1 : List UInt8 := [42, 89, 180, 0, 42, 4, 96, 181, 0, 42, 167, 255, 222, 42, 42, 180, 0, 42, 181, 0, 45, 42]
abbrev dktX4_go_1 : List UInt8 := dkwX4_go_1 ++ dktX4_go_2
def dkwX4_go_0 : List UInt8 := [42, 180, 0, 42, 42, 180, 0, 26, 162, 0, 29, 42, 42, 180, 0, 42, 182, 0, 34, 16, 32, 160, 0, 16]
abbrev dktX4_go_0 : List UInt8 := dkwX4_go_0 ++ dktX4_go_1
theorem dksX4_go_0 : cX4_go.data.toList.drop 0 = dktX4_go_0 := by decide +kernel
theorem dksX4_go_1 : cX4_go.data.toList.drop 24 = dktX4_go_1 := dk_seg dksX4_go_0 24 rfl rfl
theorem dksX4_go_2 : cX4_go.data.toList.drop 46 = dktX4_go_2 := dk_seg dksX4_go_1 22 rfl rfl
theorem dksX4_go_3 : cX4_go.data.toList.drop 69 = dktX4_go_3 := dk_seg dksX4_go_2 23 rfl rfl
theorem dksX4_go_4 : cX4_go.data.toList.drop 93 = dktX4_go_4 := dk_seg dksX4_go_3 24 rfl rfl
theorem dksX4_go_5 : cX4_go.data.toList.drop 115 = dktX4_go_5 := dk_seg dksX4_go_4 22 rfl rfl
theorem dX4_go_0 : decode cX4_go 0 = .ok (.aload_n 0, 1) := dk_42 (dk_at dksX4_go_0 0 rfl rfl)
theorem dX4_go_1 : decode cX4_go 1 = .ok (.getfield 42, 3) := dk_180 0 42 (dk_at dksX4_go_0 1 rfl rfl)
theorem dX4_go_4 : decode cX4_go 4 = .ok (.aload_n 0, 1) := dk_42 (dk_at dksX4_go_0 4 rfl rfl)
theorem dX4_go_5 : decode cX4_go 5 = .ok (.getfield 26, 3) := dk_180 0 26 (dk_at dksX4_go_0 5 rfl rfl)
theorem dX4_go_8 : decode cX4_go 8 = .ok (.if_icmp .ge 29, 3) := dk_162 0 29 (dk_at dksX4_go_0 8 rfl rfl)
theorem dX4_go_11 : decode cX4_go 11 = .ok (.aload_n 0, 1) := dk_42 (dk_at dksX4_go_0 11 rfl rfl)
theorem dX4_go_12 : decode cX4_go 12 = .ok (.aload_n 0, 1) := dk_42 (dk_at dksX4_go_0 12 rfl rfl)
theorem dX4_go_13 : decode cX4_go 13 = .ok (.getfield 42, 3) := dk_180 0 42 (dk_at dksX4_go_0 13 rfl rfl)
theorem dX4_go_16 : decode cX4_go 16 = .ok (.invokevirtual 34, 3) := dk_182 0 34 (dk_at dksX4_go_0 16 rfl rfl)
theorem dX4_go_19 : decode cX4_go 19 = .ok (.bipush 32, 2) := dk_16 32 (dk_at dksX4_go_0 19 rfl rfl)
theorem dX4_go_21 : decode cX4_go 21 = .ok (.if_icmp .ne 16, 3) := dk_160 0 16 (dk_at dksX4_go_0 21 rfl rfl)
theorem dX4_go_24 : decode cX4_go 24 = .ok (.aload_n 0, 1) := dk_42 (dk_at dksX4_go_1 0 rfl rfl)
theorem dX4_go_25 : decode cX4_go 25 = .ok (.dup, 1) := dk_89 (dk_at dksX4_go_1 1 rfl rfl)
theorem dX4_go_26 : decode cX4_go 26 = .ok (.getfield 42, 3) := dk_180 0 42 (dk_at dksX4_go_1 2 rfl rfl)
theorem dX4_go_29 : decode cX4_go 29 = .ok (.iconst 1, 1) := dk_4 (dk_at dksX4_go_1 5 rfl rfl)
theorem dX4_go_30 : decode cX4_go 30 = .ok (.iadd, 1) := dk_96 (dk_at dksX4_go_1 6 rfl rfl)
theorem dX4_go_31 : decode cX4_go 31 = .ok (.putfield 42, 3) := dk_181 0 42 (dk_at dksX4_go_1 7 rfl rfl)
theorem dX4_go_34 : decode cX4_go 34 = .ok (.goto (-34), 3) := dk_167 255 222 (dk_at dksX4_go_1 10 rfl rfl)
theorem dX4_go_37 : decode cX4_go 37 = .ok (.aload_n 0, 1) := dk_42 (dk_at dksX4_go_1 13 rfl rfl)
theorem dX4_go_38 : decode cX4_go 38 = .ok (.aload_n 0, 1) := dk_42 (dk_at dksX4_go_1 14 rfl rfl)
theorem dX4_go_39 : decode cX4_go 39 = .ok (.getfield 42, 3) := dk_180 0 42 (dk_at dksX4_go_1 15 rfl rfl)
theorem dX4_go_42 : decode cX4_go 42 = .ok (.putfield 45, 3) := dk_181 0 45 (dk_at dksX4_go_1 18 rfl rfl)
theorem dX4_go_45 : decode cX4_go 45 = .ok (.aload_n 0, 1) := dk_42 (dk_at dksX4_go_1 21 rfl rfl)
theorem dX4_go_46 : decode cX4_go 46 = .ok (.getfield 42, 3) := dk_180 0 42 (dk_at dksX4_go_2 0 rfl rfl)
theorem dX4_go_49 : decode cX4_go 49 = .ok (.aload_n 0, 1) := dk_42 (dk_at dksX4_go_2 3 rfl rfl)
theorem dX4_go_50 : decode cX4_go 50 = .ok (.getfield 26, 3) := dk_180 0 26 (dk_at dksX4_go_2 4 rfl rfl)
theorem dX4_go_53 : decode cX4_go 53 = .ok (.if_icmp .lt 11, 3) := dk_161 0 11 (dk_at dksX4_go_2 7 rfl rfl)
theorem dX4_go_56 : decode cX4_go 56 = .ok (.aload_n 0, 1) := dk_42 (dk_at dksX4_go_2 10 rfl rfl)
theorem dX4_go_57 : decode cX4_go 57 = .ok (.iconst 1, 1) := dk_4 (dk_at dksX4_go_2 11 rfl rfl)
theorem dX4_go_58 : decode cX4_go 58 = .ok (.putfield 48, 3) := dk_181 0 48 (dk_at dksX4_go_2 12 rfl rfl)
theorem dX4_go_61 : decode cX4_go 61 = .ok (.goto 71, 3) := dk_167 0 71 (dk_at dksX4_go_2 15 rfl rfl)
theorem dX4_go_64 : decode cX4_go 64 = .ok (.aload_n 0, 1) := dk_42 (dk_at dksX4_go_2 18 rfl rfl)
theorem dX4_go_65 : decode cX4_go 65 = .ok (.aload_n 0, 1) := dk_42 (dk_at dksX4_go_2 19 rfl rfl)
theorem dX4_go_66 : decode cX4_go 66 = .ok (.getfield 42, 3) := dk_180 0 42 (dk_at dksX4_go_2 20 rfl rfl)
theorem dX4_go_69 : decode cX4_go 69 = .ok (.invokevirtual 51, 3) := dk_182 0 51 (dk_at dksX4_go_3 0 rfl rfl)
theorem dX4_go_72 : decode cX4_go 72 = .ok (.ifCond .eq 10, 3) := dk_153 0 10 (dk_at dksX4_go_3 3 rfl rfl)
theorem dX4_go_75 : decode cX4_go 75 = .ok (.aload_n 0, 1) := dk_42 (dk_at dksX4_go_3 6 rfl rfl)
theorem dX4_go_76 : decode cX4_go 76 = .ok (.invokevirtual 55, 3) := dk_182 0 55 (dk_at dksX4_go_3 7 rfl rfl)
theorem dX4_go_79 : decode cX4_go 79 = .ok (.goto 53, 3) := dk_167 0 53 (dk_at dksX4_go_3 10 rfl rfl)
theorem dX4_go_82 : decode cX4_go 82 = .ok (.aload_n 0, 1) := dk_42 (dk_at dksX4_go_3 13 rfl rfl)
theorem dX4_go_83 : decode cX4_go 83 = .ok (.aload_n 0, 1) := dk_42 (dk_at dksX4_go_3 14 rfl rfl)
theorem dX4_go_84 : decode cX4_go 84 = .ok (.getfield 42, 3) := dk_180 0 42 (dk_at dksX4_go_3 15 rfl rfl)
theorem dX4_go_87 : decode cX4_go 87 = .ok (.invokevirtual 58, 3) := dk_182 0 58 (dk_at dksX4_go_3 18 rfl rfl)
theorem dX4_go_90 : decode cX4_go 90 = .ok (.ifCond .eq 10, 3) := dk_153 0 10 (dk_at dksX4_go_3 21 rfl rfl)
theorem dX4_go_93 : decode cX4_go 93 = .ok (.aload_n 0, 1) := dk_42 (dk_at dksX4_go_4 0 rfl rfl)
theorem dX4_go_94 : decode cX4_go 94 = .ok (.invokevirtual 61, 3) := dk_182 0 61 (dk_at dksX4_go_4 1 rfl rfl)
theorem dX4_go_97 : decode cX4_go 97 = .ok (.goto 35, 3) := dk_167 0 35 (dk_at dksX4_go_4 4 rfl rfl)
theorem dX4_go_100 : decode cX4_go 100 = .ok (.aload_n 0, 1) := dk_42 (dk_at dksX4_go_4 7 rfl rfl)
theorem dX4_go_101 : decode cX4_go 101 = .ok (.aload_n 0, 1) := dk_42 (dk_at dksX4_go_4 8 rfl rfl)
theorem dX4_go_102 : decode cX4_go 102 = .ok (.aload_n 0, 1) := dk_42 (dk_at dksX4_go_4 9 rfl rfl)
theorem dX4_go_103 : decode cX4_go 103 = .ok (.getfield 42, 3) := dk_180 0 42 (dk_at dksX4_go_4 10 rfl rfl)
theorem dX4_go_106 : decode cX4_go 106 = .ok (.invokevirtual 34, 3) := dk_182 0 34 (dk_at dksX4_go_4 13 rfl rfl)
theorem dX4_go_109 : decode cX4_go 109 = .ok (.bipush 59, 2) := dk_16 59 (dk_at dksX4_go_4 16 rfl rfl)
theorem dX4_go_111 : decode cX4_go 111 = .ok (.if_icmp .ne 7, 3) := dk_160 0 7 (dk_at dksX4_go_4 18 rfl rfl)
theorem dX4_go_114 : decode cX4_go 114 = .ok (.iconst 4, 1) := dk_7 (dk_at dksX4_go_4 21 rfl rfl)
theorem dX4_go_115 : decode cX4_go 115 = .ok (.goto 4, 3) := dk_167 0 4 (dk_at dksX4_go_5 0 rfl rfl)
theorem dX4_go_118 : decode cX4_go 118 = .ok (.iconst 0, 1) := dk_3 (dk_at dksX4_go_5 3 rfl rfl)
theorem dX4_go_119 : decode cX4_go 119 = .ok (.putfield 48, 3) := dk_181 0 48 (dk_at dksX4_go_5 4 rfl rfl)
theorem dX4_go_122 : decode cX4_go 122 = .ok (.aload_n 0, 1) := dk_42 (dk_at dksX4_go_5 7 rfl rfl)
theorem dX4_go_123 : decode cX4_go 123 = .ok (.dup, 1) := dk_89 (dk_at dksX4_go_5 8 rfl rfl)
theorem dX4_go_124 : decode cX4_go 124 = .ok (.getfield 42, 3) := dk_180 0 42 (dk_at dksX4_go_5 9 rfl rfl)
theorem dX4_go_127 : decode cX4_go 127 = .ok (.iconst 1, 1) := dk_4 (dk_at dksX4_go_5 12 rfl rfl)
theorem dX4_go_128 : decode cX4_go 128 = .ok (.iadd, 1) := dk_96 (dk_at dksX4_go_5 13 rfl rfl)
theorem dX4_go_129 : decode cX4_go 129 = .ok (.putfield 42, 3) := dk_181 0 42 (dk_at dksX4_go_5 14 rfl rfl)
theorem dX4_go_132 : decode cX4_go 132 = .ok (.return_, 1) := dk_177 (dk_at dksX4_go_5 17 rfl rfl)
abbrev cX4_byteAt : ByteArray := prog_6_method_2_code
def yX4_byteAt : MethodName := ⟨RX4, "byteAt", "(I)I"⟩
def dkwX4_byteAt_1 : List UInt8 := [3, 172]
abbrev dktX4_byteAt_1 : List UInt8 := dkwX4_byteAt_1 ++ []
def dkwX4_byteAt_0 : List UInt8 := [27, 42, 180, 0, 26, 162, 0, 19, 42, 180, 0, 3, 180, 0, 30, 27, 51, 17, 0, 255, 126, 167, 0, 4]
abbrev dktX4_byteAt_0 : List UInt8 := dkwX4_byteAt_0 ++ dktX4_byteAt_1
theorem dksX4_byteAt_0 : cX4_byteAt.data.toList.drop 0 = dktX4_byteAt_0 := by decide +kernel
theorem dksX4_byteAt_1 : cX4_byteAt.data.toList.drop 24 = dktX4_byteAt_1 := dk_seg dksX4_byteAt_0 24 rfl rfl
theorem dX4_byteAt_0 : decode cX4_byteAt 0 = .ok (.iload_n 1, 1) := dk_27 (dk_at dksX4_byteAt_0 0 rfl rfl)
theorem dX4_byteAt_1 : decode cX4_byteAt 1 = .ok (.aload_n 0, 1) := dk_42 (dk_at dksX4_byteAt_0 1 rfl rfl)
theorem dX4_byteAt_2 : decode cX4_byteAt 2 = .ok (.getfield 26, 3) := dk_180 0 26 (dk_at dksX4_byteAt_0 2 rfl rfl)
theorem dX4_byteAt_5 : decode cX4_byteAt 5 = .ok (.if_icmp .ge 19, 3) := dk_162 0 19 (dk_at dksX4_byteAt_0 5 rfl rfl)
theorem dX4_byteAt_8 : decode cX4_byteAt 8 = .ok (.aload_n 0, 1) := dk_42 (dk_at dksX4_byteAt_0 8 rfl rfl)
theorem dX4_byteAt_9 : decode cX4_byteAt 9 = .ok (.getfield 3, 3) := dk_180 0 3 (dk_at dksX4_byteAt_0 9 rfl rfl)
theorem dX4_byteAt_12 : decode cX4_byteAt 12 = .ok (.getfield 30, 3) := dk_180 0 30 (dk_at dksX4_byteAt_0 12 rfl rfl)
theorem dX4_byteAt_15 : decode cX4_byteAt 15 = .ok (.iload_n 1, 1) := dk_27 (dk_at dksX4_byteAt_0 15 rfl rfl)
theorem dX4_byteAt_16 : decode cX4_byteAt 16 = .ok (.baload, 1) := dk_51 (dk_at dksX4_byteAt_0 16 rfl rfl)
theorem dX4_byteAt_17 : decode cX4_byteAt 17 = .ok (.sipush 255, 3) := dk_17 0 255 (dk_at dksX4_byteAt_0 17 rfl rfl)
theorem dX4_byteAt_20 : decode cX4_byteAt 20 = .ok (.iand, 1) := dk_126 (dk_at dksX4_byteAt_0 20 rfl rfl)
theorem dX4_byteAt_21 : decode cX4_byteAt 21 = .ok (.goto 4, 3) := dk_167 0 4 (dk_at dksX4_byteAt_0 21 rfl rfl)
theorem dX4_byteAt_24 : decode cX4_byteAt 24 = .ok (.iconst 0, 1) := dk_3 (dk_at dksX4_byteAt_1 0 rfl rfl)
theorem dX4_byteAt_25 : decode cX4_byteAt 25 = .ok (.ireturn, 1) := dk_172 (dk_at dksX4_byteAt_1 1 rfl rfl)
abbrev cX4_isLetter : ByteArray := prog_6_method_3_code
def yX4_isLetter : MethodName := ⟨RX4, "isLetter", "(I)Z"⟩
def dkwX4_isLetter_0 : List UInt8 := [42, 27, 182, 0, 34, 16, 97, 16, 122, 184, 0, 38, 172]
abbrev dktX4_isLetter_0 : List UInt8 := dkwX4_isLetter_0 ++ []
theorem dksX4_isLetter_0 : cX4_isLetter.data.toList.drop 0 = dktX4_isLetter_0 := by decide +kernel
theorem dX4_isLetter_0 : decode cX4_isLetter 0 = .ok (.aload_n 0, 1) := dk_42 (dk_at dksX4_isLetter_0 0 rfl rfl)
theorem dX4_isLetter_1 : decode cX4_isLetter 1 = .ok (.iload_n 1, 1) := dk_27 (dk_at dksX4_isLetter_0 1 rfl rfl)
theorem dX4_isLetter_2 : decode cX4_isLetter 2 = .ok (.invokevirtual 34, 3) := dk_182 0 34 (dk_at dksX4_isLetter_0 2 rfl rfl)
theorem dX4_isLetter_5 : decode cX4_isLetter 5 = .ok (.bipush 97, 2) := dk_16 97 (dk_at dksX4_isLetter_0 5 rfl rfl)
theorem dX4_isLetter_7 : decode cX4_isLetter 7 = .ok (.bipush 122, 2) := dk_16 122 (dk_at dksX4_isLetter_0 7 rfl rfl)
theorem dX4_isLetter_9 : decode cX4_isLetter 9 = .ok (.invokestatic 38, 3) := dk_184 0 38 (dk_at dksX4_isLetter_0 9 rfl rfl)
theorem dX4_isLetter_12 : decode cX4_isLetter 12 = .ok (.ireturn, 1) := dk_172 (dk_at dksX4_isLetter_0 12 rfl rfl)
abbrev cX4_goWord : ByteArray := prog_6_method_6_code
def yX4_goWord : MethodName := ⟨RX4, "goWord", "()V"⟩
def dkwX4_goWord_3 : List UInt8 := [180, 0, 45, 100, 16, 6, 164, 0, 7, 3, 167, 0, 4, 5, 181, 0, 48, 177]
abbrev dktX4_goWord_3 : List UInt8 := dkwX4_goWord_3 ++ []
def dkwX4_goWord_2 : List UInt8 := [181, 0, 64, 42, 89, 180, 0, 42, 4, 96, 181, 0, 42, 167, 255, 200, 42, 42, 180, 0, 42, 42]
abbrev dktX4_goWord_2 : List UInt8 := dkwX4_goWord_2 ++ dktX4_goWord_3
def dkwX4_goWord_1 : List UInt8 := [100, 16, 6, 162, 0, 24, 42, 42, 180, 0, 64, 16, 8, 121, 42, 42, 180, 0, 42, 182, 0, 34, 133, 129]
abbrev dktX4_goWord_1 : List UInt8 := dkwX4_goWord_1 ++ dktX4_goWord_2
def dkwX4_goWord_0 : List UInt8 := [42, 9, 181, 0, 64, 42, 42, 180, 0, 42, 182, 0, 51, 153, 0, 51, 42, 180, 0, 42, 42, 180, 0, 45]
abbrev dktX4_goWord_0 : List UInt8 := dkwX4_goWord_0 ++ dktX4_goWord_1
theorem dksX4_goWord_0 : cX4_goWord.data.toList.drop 0 = dktX4_goWord_0 := by decide +kernel
theorem dksX4_goWord_1 : cX4_goWord.data.toList.drop 24 = dktX4_goWord_1 := dk_seg dksX4_goWord_0 24 rfl rfl
theorem dksX4_goWord_2 : cX4_goWord.data.toList.drop 48 = dktX4_goWord_2 := dk_seg dksX4_goWord_1 24 rfl rfl
theorem dksX4_goWord_3 : cX4_goWord.data.toList.drop 70 = dktX4_goWord_3 := dk_seg dksX4_goWord_2 22 rfl rfl
theorem dX4_goWord_0 : decode cX4_goWord 0 = .ok (.aload_n 0, 1) := dk_42 (dk_at dksX4_goWord_0 0 rfl rfl)
theorem dX4_goWord_1 : decode cX4_goWord 1 = .ok (.lconst 0, 1) := dk_9 (dk_at dksX4_goWord_0 1 rfl rfl)
theorem dX4_goWord_2 : decode cX4_goWord 2 = .ok (.putfield 64, 3) := dk_181 0 64 (dk_at dksX4_goWord_0 2 rfl rfl)
theorem dX4_goWord_5 : decode cX4_goWord 5 = .ok (.aload_n 0, 1) := dk_42 (dk_at dksX4_goWord_0 5 rfl rfl)
theorem dX4_goWord_6 : decode cX4_goWord 6 = .ok (.aload_n 0, 1) := dk_42 (dk_at dksX4_goWord_0 6 rfl rfl)
theorem dX4_goWord_7 : decode cX4_goWord 7 = .ok (.getfield 42, 3) := dk_180 0 42 (dk_at dksX4_goWord_0 7 rfl rfl)
theorem dX4_goWord_10 : decode cX4_goWord 10 = .ok (.invokevirtual 51, 3) := dk_182 0 51 (dk_at dksX4_goWord_0 10 rfl rfl)
theorem dX4_goWord_13 : decode cX4_goWord 13 = .ok (.ifCond .eq 51, 3) := dk_153 0 51 (dk_at dksX4_goWord_0 13 rfl rfl)
theorem dX4_goWord_16 : decode cX4_goWord 16 = .ok (.aload_n 0, 1) := dk_42 (dk_at dksX4_goWord_0 16 rfl rfl)
theorem dX4_goWord_17 : decode cX4_goWord 17 = .ok (.getfield 42, 3) := dk_180 0 42 (dk_at dksX4_goWord_0 17 rfl rfl)
theorem dX4_goWord_20 : decode cX4_goWord 20 = .ok (.aload_n 0, 1) := dk_42 (dk_at dksX4_goWord_0 20 rfl rfl)
theorem dX4_goWord_21 : decode cX4_goWord 21 = .ok (.getfield 45, 3) := dk_180 0 45 (dk_at dksX4_goWord_0 21 rfl rfl)
theorem dX4_goWord_24 : decode cX4_goWord 24 = .ok (.isub, 1) := dk_100 (dk_at dksX4_goWord_1 0 rfl rfl)
theorem dX4_goWord_25 : decode cX4_goWord 25 = .ok (.bipush 6, 2) := dk_16 6 (dk_at dksX4_goWord_1 1 rfl rfl)
theorem dX4_goWord_27 : decode cX4_goWord 27 = .ok (.if_icmp .ge 24, 3) := dk_162 0 24 (dk_at dksX4_goWord_1 3 rfl rfl)
theorem dX4_goWord_30 : decode cX4_goWord 30 = .ok (.aload_n 0, 1) := dk_42 (dk_at dksX4_goWord_1 6 rfl rfl)
theorem dX4_goWord_31 : decode cX4_goWord 31 = .ok (.aload_n 0, 1) := dk_42 (dk_at dksX4_goWord_1 7 rfl rfl)
theorem dX4_goWord_32 : decode cX4_goWord 32 = .ok (.getfield 64, 3) := dk_180 0 64 (dk_at dksX4_goWord_1 8 rfl rfl)
theorem dX4_goWord_35 : decode cX4_goWord 35 = .ok (.bipush 8, 2) := dk_16 8 (dk_at dksX4_goWord_1 11 rfl rfl)
theorem dX4_goWord_37 : decode cX4_goWord 37 = .ok (.lshl, 1) := dk_121 (dk_at dksX4_goWord_1 13 rfl rfl)
theorem dX4_goWord_38 : decode cX4_goWord 38 = .ok (.aload_n 0, 1) := dk_42 (dk_at dksX4_goWord_1 14 rfl rfl)
theorem dX4_goWord_39 : decode cX4_goWord 39 = .ok (.aload_n 0, 1) := dk_42 (dk_at dksX4_goWord_1 15 rfl rfl)
theorem dX4_goWord_40 : decode cX4_goWord 40 = .ok (.getfield 42, 3) := dk_180 0 42 (dk_at dksX4_goWord_1 16 rfl rfl)
theorem dX4_goWord_43 : decode cX4_goWord 43 = .ok (.invokevirtual 34, 3) := dk_182 0 34 (dk_at dksX4_goWord_1 19 rfl rfl)
theorem dX4_goWord_46 : decode cX4_goWord 46 = .ok (.i2l, 1) := dk_133 (dk_at dksX4_goWord_1 22 rfl rfl)
theorem dX4_goWord_47 : decode cX4_goWord 47 = .ok (.lor, 1) := dk_129 (dk_at dksX4_goWord_1 23 rfl rfl)
theorem dX4_goWord_48 : decode cX4_goWord 48 = .ok (.putfield 64, 3) := dk_181 0 64 (dk_at dksX4_goWord_2 0 rfl rfl)
theorem dX4_goWord_51 : decode cX4_goWord 51 = .ok (.aload_n 0, 1) := dk_42 (dk_at dksX4_goWord_2 3 rfl rfl)
theorem dX4_goWord_52 : decode cX4_goWord 52 = .ok (.dup, 1) := dk_89 (dk_at dksX4_goWord_2 4 rfl rfl)
theorem dX4_goWord_53 : decode cX4_goWord 53 = .ok (.getfield 42, 3) := dk_180 0 42 (dk_at dksX4_goWord_2 5 rfl rfl)
theorem dX4_goWord_56 : decode cX4_goWord 56 = .ok (.iconst 1, 1) := dk_4 (dk_at dksX4_goWord_2 8 rfl rfl)
theorem dX4_goWord_57 : decode cX4_goWord 57 = .ok (.iadd, 1) := dk_96 (dk_at dksX4_goWord_2 9 rfl rfl)
theorem dX4_goWord_58 : decode cX4_goWord 58 = .ok (.putfield 42, 3) := dk_181 0 42 (dk_at dksX4_goWord_2 10 rfl rfl)
theorem dX4_goWord_61 : decode cX4_goWord 61 = .ok (.goto (-56), 3) := dk_167 255 200 (dk_at dksX4_goWord_2 13 rfl rfl)
theorem dX4_goWord_64 : decode cX4_goWord 64 = .ok (.aload_n 0, 1) := dk_42 (dk_at dksX4_goWord_2 16 rfl rfl)
theorem dX4_goWord_65 : decode cX4_goWord 65 = .ok (.aload_n 0, 1) := dk_42 (dk_at dksX4_goWord_2 17 rfl rfl)
theorem dX4_goWord_66 : decode cX4_goWord 66 = .ok (.getfield 42, 3) := dk_180 0 42 (dk_at dksX4_goWord_2 18 rfl rfl)
theorem dX4_goWord_69 : decode cX4_goWord 69 = .ok (.aload_n 0, 1) := dk_42 (dk_at dksX4_goWord_2 21 rfl rfl)
theorem dX4_goWord_70 : decode cX4_goWord 70 = .ok (.getfield 45, 3) := dk_180 0 45 (dk_at dksX4_goWord_3 0 rfl rfl)
theorem dX4_goWord_73 : decode cX4_goWord 73 = .ok (.isub, 1) := dk_100 (dk_at dksX4_goWord_3 3 rfl rfl)
theorem dX4_goWord_74 : decode cX4_goWord 74 = .ok (.bipush 6, 2) := dk_16 6 (dk_at dksX4_goWord_3 4 rfl rfl)
theorem dX4_goWord_76 : decode cX4_goWord 76 = .ok (.if_icmp .le 7, 3) := dk_164 0 7 (dk_at dksX4_goWord_3 6 rfl rfl)
theorem dX4_goWord_79 : decode cX4_goWord 79 = .ok (.iconst 0, 1) := dk_3 (dk_at dksX4_goWord_3 9 rfl rfl)
theorem dX4_goWord_80 : decode cX4_goWord 80 = .ok (.goto 4, 3) := dk_167 0 4 (dk_at dksX4_goWord_3 10 rfl rfl)
theorem dX4_goWord_83 : decode cX4_goWord 83 = .ok (.iconst 2, 1) := dk_5 (dk_at dksX4_goWord_3 13 rfl rfl)
theorem dX4_goWord_84 : decode cX4_goWord 84 = .ok (.putfield 48, 3) := dk_181 0 48 (dk_at dksX4_goWord_3 14 rfl rfl)
theorem dX4_goWord_87 : decode cX4_goWord 87 = .ok (.return_, 1) := dk_177 (dk_at dksX4_goWord_3 17 rfl rfl)
abbrev cX4_isDigit : ByteArray := prog_6_method_4_code
def yX4_isDigit : MethodName := ⟨RX4, "isDigit", "(I)Z"⟩
def dkwX4_isDigit_0 : List UInt8 := [42, 27, 182, 0, 34, 16, 48, 16, 57, 184, 0, 38, 172]
abbrev dktX4_isDigit_0 : List UInt8 := dkwX4_isDigit_0 ++ []
theorem dksX4_isDigit_0 : cX4_isDigit.data.toList.drop 0 = dktX4_isDigit_0 := by decide +kernel
theorem dX4_isDigit_0 : decode cX4_isDigit 0 = .ok (.aload_n 0, 1) := dk_42 (dk_at dksX4_isDigit_0 0 rfl rfl)
theorem dX4_isDigit_1 : decode cX4_isDigit 1 = .ok (.iload_n 1, 1) := dk_27 (dk_at dksX4_isDigit_0 1 rfl rfl)
theorem dX4_isDigit_2 : decode cX4_isDigit 2 = .ok (.invokevirtual 34, 3) := dk_182 0 34 (dk_at dksX4_isDigit_0 2 rfl rfl)
theorem dX4_isDigit_5 : decode cX4_isDigit 5 = .ok (.bipush 48, 2) := dk_16 48 (dk_at dksX4_isDigit_0 5 rfl rfl)
theorem dX4_isDigit_7 : decode cX4_isDigit 7 = .ok (.bipush 57, 2) := dk_16 57 (dk_at dksX4_isDigit_0 7 rfl rfl)
theorem dX4_isDigit_9 : decode cX4_isDigit 9 = .ok (.invokestatic 38, 3) := dk_184 0 38 (dk_at dksX4_isDigit_0 9 rfl rfl)
theorem dX4_isDigit_12 : decode cX4_isDigit 12 = .ok (.ireturn, 1) := dk_172 (dk_at dksX4_isDigit_0 12 rfl rfl)
abbrev cX4_goWhole : ByteArray := prog_6_method_7_code
def yX4_goWhole : MethodName := ⟨RX4, "goWhole", "()V"⟩
def dkwX4_goWhole_3 : List UInt8 := [180, 0, 45, 100, 6, 164, 0, 7, 3, 167, 0, 4, 6, 181, 0, 48, 177]
abbrev dktX4_goWhole_3 : List UInt8 := dkwX4_goWhole_3 ++ []
def dkwX4_goWhole_2 : List UInt8 := [100, 181, 0, 68, 42, 89, 180, 0, 42, 4, 96, 181, 0, 42, 167, 255, 199, 42, 42, 180, 0, 42, 42]
abbrev dktX4_goWhole_2 : List UInt8 := dkwX4_goWhole_2 ++ dktX4_goWhole_3
def dkwX4_goWhole_1 : List UInt8 := [100, 6, 162, 0, 26, 42, 16, 10, 42, 180, 0, 68, 104, 42, 42, 180, 0, 42, 182, 0, 34, 96, 16, 48]
abbrev dktX4_goWhole_1 : List UInt8 := dkwX4_goWhole_1 ++ dktX4_goWhole_2
def dkwX4_goWhole_0 : List UInt8 := [42, 3, 181, 0, 68, 42, 42, 180, 0, 42, 182, 0, 58, 153, 0, 52, 42, 180, 0, 42, 42, 180, 0, 45]
abbrev dktX4_goWhole_0 : List UInt8 := dkwX4_goWhole_0 ++ dktX4_goWhole_1
theorem dksX4_goWhole_0 : cX4_goWhole.data.toList.drop 0 = dktX4_goWhole_0 := by decide +kernel
theorem dksX4_goWhole_1 : cX4_goWhole.data.toList.drop 24 = dktX4_goWhole_1 := dk_seg dksX4_goWhole_0 24 rfl rfl
theorem dksX4_goWhole_2 : cX4_goWhole.data.toList.drop 48 = dktX4_goWhole_2 := dk_seg dksX4_goWhole_1 24 rfl rfl
theorem dksX4_goWhole_3 : cX4_goWhole.data.toList.drop 71 = dktX4_goWhole_3 := dk_seg dksX4_goWhole_2 23 rfl rfl
theorem dX4_goWhole_0 : decode cX4_goWhole 0 = .ok (.aload_n 0, 1) := dk_42 (dk_at dksX4_goWhole_0 0 rfl rfl)
theorem dX4_goWhole_1 : decode cX4_goWhole 1 = .ok (.iconst 0, 1) := dk_3 (dk_at dksX4_goWhole_0 1 rfl rfl)
theorem dX4_goWhole_2 : decode cX4_goWhole 2 = .ok (.putfield 68, 3) := dk_181 0 68 (dk_at dksX4_goWhole_0 2 rfl rfl)
theorem dX4_goWhole_5 : decode cX4_goWhole 5 = .ok (.aload_n 0, 1) := dk_42 (dk_at dksX4_goWhole_0 5 rfl rfl)
theorem dX4_goWhole_6 : decode cX4_goWhole 6 = .ok (.aload_n 0, 1) := dk_42 (dk_at dksX4_goWhole_0 6 rfl rfl)
theorem dX4_goWhole_7 : decode cX4_goWhole 7 = .ok (.getfield 42, 3) := dk_180 0 42 (dk_at dksX4_goWhole_0 7 rfl rfl)
theorem dX4_goWhole_10 : decode cX4_goWhole 10 = .ok (.invokevirtual 58, 3) := dk_182 0 58 (dk_at dksX4_goWhole_0 10 rfl rfl)
theorem dX4_goWhole_13 : decode cX4_goWhole 13 = .ok (.ifCond .eq 52, 3) := dk_153 0 52 (dk_at dksX4_goWhole_0 13 rfl rfl)
theorem dX4_goWhole_16 : decode cX4_goWhole 16 = .ok (.aload_n 0, 1) := dk_42 (dk_at dksX4_goWhole_0 16 rfl rfl)
theorem dX4_goWhole_17 : decode cX4_goWhole 17 = .ok (.getfield 42, 3) := dk_180 0 42 (dk_at dksX4_goWhole_0 17 rfl rfl)
theorem dX4_goWhole_20 : decode cX4_goWhole 20 = .ok (.aload_n 0, 1) := dk_42 (dk_at dksX4_goWhole_0 20 rfl rfl)
theorem dX4_goWhole_21 : decode cX4_goWhole 21 = .ok (.getfield 45, 3) := dk_180 0 45 (dk_at dksX4_goWhole_0 21 rfl rfl)
theorem dX4_goWhole_24 : decode cX4_goWhole 24 = .ok (.isub, 1) := dk_100 (dk_at dksX4_goWhole_1 0 rfl rfl)
theorem dX4_goWhole_25 : decode cX4_goWhole 25 = .ok (.iconst 3, 1) := dk_6 (dk_at dksX4_goWhole_1 1 rfl rfl)
theorem dX4_goWhole_26 : decode cX4_goWhole 26 = .ok (.if_icmp .ge 26, 3) := dk_162 0 26 (dk_at dksX4_goWhole_1 2 rfl rfl)
theorem dX4_goWhole_29 : decode cX4_goWhole 29 = .ok (.aload_n 0, 1) := dk_42 (dk_at dksX4_goWhole_1 5 rfl rfl)
theorem dX4_goWhole_30 : decode cX4_goWhole 30 = .ok (.bipush 10, 2) := dk_16 10 (dk_at dksX4_goWhole_1 6 rfl rfl)
theorem dX4_goWhole_32 : decode cX4_goWhole 32 = .ok (.aload_n 0, 1) := dk_42 (dk_at dksX4_goWhole_1 8 rfl rfl)
theorem dX4_goWhole_33 : decode cX4_goWhole 33 = .ok (.getfield 68, 3) := dk_180 0 68 (dk_at dksX4_goWhole_1 9 rfl rfl)
theorem dX4_goWhole_36 : decode cX4_goWhole 36 = .ok (.imul, 1) := dk_104 (dk_at dksX4_goWhole_1 12 rfl rfl)
theorem dX4_goWhole_37 : decode cX4_goWhole 37 = .ok (.aload_n 0, 1) := dk_42 (dk_at dksX4_goWhole_1 13 rfl rfl)
theorem dX4_goWhole_38 : decode cX4_goWhole 38 = .ok (.aload_n 0, 1) := dk_42 (dk_at dksX4_goWhole_1 14 rfl rfl)
theorem dX4_goWhole_39 : decode cX4_goWhole 39 = .ok (.getfield 42, 3) := dk_180 0 42 (dk_at dksX4_goWhole_1 15 rfl rfl)
theorem dX4_goWhole_42 : decode cX4_goWhole 42 = .ok (.invokevirtual 34, 3) := dk_182 0 34 (dk_at dksX4_goWhole_1 18 rfl rfl)
theorem dX4_goWhole_45 : decode cX4_goWhole 45 = .ok (.iadd, 1) := dk_96 (dk_at dksX4_goWhole_1 21 rfl rfl)
theorem dX4_goWhole_46 : decode cX4_goWhole 46 = .ok (.bipush 48, 2) := dk_16 48 (dk_at dksX4_goWhole_1 22 rfl rfl)
theorem dX4_goWhole_48 : decode cX4_goWhole 48 = .ok (.isub, 1) := dk_100 (dk_at dksX4_goWhole_2 0 rfl rfl)
theorem dX4_goWhole_49 : decode cX4_goWhole 49 = .ok (.putfield 68, 3) := dk_181 0 68 (dk_at dksX4_goWhole_2 1 rfl rfl)
theorem dX4_goWhole_52 : decode cX4_goWhole 52 = .ok (.aload_n 0, 1) := dk_42 (dk_at dksX4_goWhole_2 4 rfl rfl)
theorem dX4_goWhole_53 : decode cX4_goWhole 53 = .ok (.dup, 1) := dk_89 (dk_at dksX4_goWhole_2 5 rfl rfl)
theorem dX4_goWhole_54 : decode cX4_goWhole 54 = .ok (.getfield 42, 3) := dk_180 0 42 (dk_at dksX4_goWhole_2 6 rfl rfl)
theorem dX4_goWhole_57 : decode cX4_goWhole 57 = .ok (.iconst 1, 1) := dk_4 (dk_at dksX4_goWhole_2 9 rfl rfl)
theorem dX4_goWhole_58 : decode cX4_goWhole 58 = .ok (.iadd, 1) := dk_96 (dk_at dksX4_goWhole_2 10 rfl rfl)
theorem dX4_goWhole_59 : decode cX4_goWhole 59 = .ok (.putfield 42, 3) := dk_181 0 42 (dk_at dksX4_goWhole_2 11 rfl rfl)
theorem dX4_goWhole_62 : decode cX4_goWhole 62 = .ok (.goto (-57), 3) := dk_167 255 199 (dk_at dksX4_goWhole_2 14 rfl rfl)
theorem dX4_goWhole_65 : decode cX4_goWhole 65 = .ok (.aload_n 0, 1) := dk_42 (dk_at dksX4_goWhole_2 17 rfl rfl)
theorem dX4_goWhole_66 : decode cX4_goWhole 66 = .ok (.aload_n 0, 1) := dk_42 (dk_at dksX4_goWhole_2 18 rfl rfl)
theorem dX4_goWhole_67 : decode cX4_goWhole 67 = .ok (.getfield 42, 3) := dk_180 0 42 (dk_at dksX4_goWhole_2 19 rfl rfl)
theorem dX4_goWhole_70 : decode cX4_goWhole 70 = .ok (.aload_n 0, 1) := dk_42 (dk_at dksX4_goWhole_2 22 rfl rfl)
theorem dX4_goWhole_71 : decode cX4_goWhole 71 = .ok (.getfield 45, 3) := dk_180 0 45 (dk_at dksX4_goWhole_3 0 rfl rfl)
theorem dX4_goWhole_74 : decode cX4_goWhole 74 = .ok (.isub, 1) := dk_100 (dk_at dksX4_goWhole_3 3 rfl rfl)
theorem dX4_goWhole_75 : decode cX4_goWhole 75 = .ok (.iconst 3, 1) := dk_6 (dk_at dksX4_goWhole_3 4 rfl rfl)
theorem dX4_goWhole_76 : decode cX4_goWhole 76 = .ok (.if_icmp .le 7, 3) := dk_164 0 7 (dk_at dksX4_goWhole_3 5 rfl rfl)
theorem dX4_goWhole_79 : decode cX4_goWhole 79 = .ok (.iconst 0, 1) := dk_3 (dk_at dksX4_goWhole_3 8 rfl rfl)
theorem dX4_goWhole_80 : decode cX4_goWhole 80 = .ok (.goto 4, 3) := dk_167 0 4 (dk_at dksX4_goWhole_3 9 rfl rfl)
theorem dX4_goWhole_83 : decode cX4_goWhole 83 = .ok (.iconst 3, 1) := dk_6 (dk_at dksX4_goWhole_3 12 rfl rfl)
theorem dX4_goWhole_84 : decode cX4_goWhole 84 = .ok (.putfield 48, 3) := dk_181 0 48 (dk_at dksX4_goWhole_3 13 rfl rfl)
theorem dX4_goWhole_87 : decode cX4_goWhole 87 = .ok (.return_, 1) := dk_177 (dk_at dksX4_goWhole_3 16 rfl rfl)
abbrev cX4_line : ByteArray := prog_6_method_14_code
def yX4_line : MethodName := ⟨RX4, "line", "()V"⟩
def dkwX4_line_3 : List UInt8 := [4, 182, 0, 90, 177]
abbrev dktX4_line_3 : List UInt8 := dkwX4_line_3 ++ []
def dkwX4_line_2 : List UInt8 := [182, 0, 117, 167, 0, 25, 42, 18, 123, 182, 0, 86, 153, 0, 10, 42, 182, 0, 125, 167, 0, 9, 42, 3]
abbrev dktX4_line_2 : List UInt8 := dkwX4_line_2 ++ dktX4_line_3
def dkwX4_line_1 : List UInt8 := [153, 0, 11, 42, 3, 182, 0, 117, 167, 0, 42, 42, 18, 121, 182, 0, 86, 153, 0, 11, 42, 4]
abbrev dktX4_line_1 : List UInt8 := dkwX4_line_1 ++ dktX4_line_2
def dkwX4_line_0 : List UInt8 := [42, 18, 111, 182, 0, 86, 153, 0, 10, 42, 182, 0, 113, 167, 0, 59, 42, 18, 115, 182, 0, 86]
abbrev dktX4_line_0 : List UInt8 := dkwX4_line_0 ++ dktX4_line_1
theorem dksX4_line_0 : cX4_line.data.toList.drop 0 = dktX4_line_0 := by decide +kernel
theorem dksX4_line_1 : cX4_line.data.toList.drop 22 = dktX4_line_1 := dk_seg dksX4_line_0 22 rfl rfl
theorem dksX4_line_2 : cX4_line.data.toList.drop 44 = dktX4_line_2 := dk_seg dksX4_line_1 22 rfl rfl
theorem dksX4_line_3 : cX4_line.data.toList.drop 68 = dktX4_line_3 := dk_seg dksX4_line_2 24 rfl rfl
theorem dX4_line_0 : decode cX4_line 0 = .ok (.aload_n 0, 1) := dk_42 (dk_at dksX4_line_0 0 rfl rfl)
theorem dX4_line_1 : decode cX4_line 1 = .ok (.ldc 111, 2) := dk_18 111 (dk_at dksX4_line_0 1 rfl rfl)
theorem dX4_line_3 : decode cX4_line 3 = .ok (.invokevirtual 86, 3) := dk_182 0 86 (dk_at dksX4_line_0 3 rfl rfl)
theorem dX4_line_6 : decode cX4_line 6 = .ok (.ifCond .eq 10, 3) := dk_153 0 10 (dk_at dksX4_line_0 6 rfl rfl)
theorem dX4_line_9 : decode cX4_line 9 = .ok (.aload_n 0, 1) := dk_42 (dk_at dksX4_line_0 9 rfl rfl)
theorem dX4_line_10 : decode cX4_line 10 = .ok (.invokevirtual 113, 3) := dk_182 0 113 (dk_at dksX4_line_0 10 rfl rfl)
theorem dX4_line_13 : decode cX4_line 13 = .ok (.goto 59, 3) := dk_167 0 59 (dk_at dksX4_line_0 13 rfl rfl)
theorem dX4_line_16 : decode cX4_line 16 = .ok (.aload_n 0, 1) := dk_42 (dk_at dksX4_line_0 16 rfl rfl)
theorem dX4_line_17 : decode cX4_line 17 = .ok (.ldc 115, 2) := dk_18 115 (dk_at dksX4_line_0 17 rfl rfl)
theorem dX4_line_19 : decode cX4_line 19 = .ok (.invokevirtual 86, 3) := dk_182 0 86 (dk_at dksX4_line_0 19 rfl rfl)
theorem dX4_line_22 : decode cX4_line 22 = .ok (.ifCond .eq 11, 3) := dk_153 0 11 (dk_at dksX4_line_1 0 rfl rfl)
theorem dX4_line_25 : decode cX4_line 25 = .ok (.aload_n 0, 1) := dk_42 (dk_at dksX4_line_1 3 rfl rfl)
theorem dX4_line_26 : decode cX4_line 26 = .ok (.iconst 0, 1) := dk_3 (dk_at dksX4_line_1 4 rfl rfl)
theorem dX4_line_27 : decode cX4_line 27 = .ok (.invokevirtual 117, 3) := dk_182 0 117 (dk_at dksX4_line_1 5 rfl rfl)
theorem dX4_line_30 : decode cX4_line 30 = .ok (.goto 42, 3) := dk_167 0 42 (dk_at dksX4_line_1 8 rfl rfl)
theorem dX4_line_33 : decode cX4_line 33 = .ok (.aload_n 0, 1) := dk_42 (dk_at dksX4_line_1 11 rfl rfl)
theorem dX4_line_34 : decode cX4_line 34 = .ok (.ldc 121, 2) := dk_18 121 (dk_at dksX4_line_1 12 rfl rfl)
theorem dX4_line_36 : decode cX4_line 36 = .ok (.invokevirtual 86, 3) := dk_182 0 86 (dk_at dksX4_line_1 14 rfl rfl)
theorem dX4_line_39 : decode cX4_line 39 = .ok (.ifCond .eq 11, 3) := dk_153 0 11 (dk_at dksX4_line_1 17 rfl rfl)
theorem dX4_line_42 : decode cX4_line 42 = .ok (.aload_n 0, 1) := dk_42 (dk_at dksX4_line_1 20 rfl rfl)
theorem dX4_line_43 : decode cX4_line 43 = .ok (.iconst 1, 1) := dk_4 (dk_at dksX4_line_1 21 rfl rfl)
theorem dX4_line_44 : decode cX4_line 44 = .ok (.invokevirtual 117, 3) := dk_182 0 117 (dk_at dksX4_line_2 0 rfl rfl)
theorem dX4_line_47 : decode cX4_line 47 = .ok (.goto 25, 3) := dk_167 0 25 (dk_at dksX4_line_2 3 rfl rfl)
theorem dX4_line_50 : decode cX4_line 50 = .ok (.aload_n 0, 1) := dk_42 (dk_at dksX4_line_2 6 rfl rfl)
theorem dX4_line_51 : decode cX4_line 51 = .ok (.ldc 123, 2) := dk_18 123 (dk_at dksX4_line_2 7 rfl rfl)
theorem dX4_line_53 : decode cX4_line 53 = .ok (.invokevirtual 86, 3) := dk_182 0 86 (dk_at dksX4_line_2 9 rfl rfl)
theorem dX4_line_56 : decode cX4_line 56 = .ok (.ifCond .eq 10, 3) := dk_153 0 10 (dk_at dksX4_line_2 12 rfl rfl)
theorem dX4_line_59 : decode cX4_line 59 = .ok (.aload_n 0, 1) := dk_42 (dk_at dksX4_line_2 15 rfl rfl)
theorem dX4_line_60 : decode cX4_line 60 = .ok (.invokevirtual 125, 3) := dk_182 0 125 (dk_at dksX4_line_2 16 rfl rfl)
theorem dX4_line_63 : decode cX4_line 63 = .ok (.goto 9, 3) := dk_167 0 9 (dk_at dksX4_line_2 19 rfl rfl)
theorem dX4_line_66 : decode cX4_line 66 = .ok (.aload_n 0, 1) := dk_42 (dk_at dksX4_line_2 22 rfl rfl)
theorem dX4_line_67 : decode cX4_line 67 = .ok (.iconst 0, 1) := dk_3 (dk_at dksX4_line_2 23 rfl rfl)
theorem dX4_line_68 : decode cX4_line 68 = .ok (.iconst 1, 1) := dk_4 (dk_at dksX4_line_3 0 rfl rfl)
theorem dX4_line_69 : decode cX4_line 69 = .ok (.invokevirtual 90, 3) := dk_182 0 90 (dk_at dksX4_line_3 1 rfl rfl)
theorem dX4_line_72 : decode cX4_line 72 = .ok (.return_, 1) := dk_177 (dk_at dksX4_line_3 4 rfl rfl)
abbrev cX4_is : ByteArray := prog_6_method_9_code
def yX4_is : MethodName := ⟨RX4, "is", "(Ljava/lang/String;)Z"⟩
def dkwX4_is_2 : List UInt8 := [148, 154, 0, 7, 4, 167, 0, 4, 3, 172]
abbrev dktX4_is_2 : List UInt8 := dkwX4_is_2 ++ []
def dkwX4_is_1 : List UInt8 := [32, 16, 8, 121, 43, 21, 4, 182, 0, 82, 133, 129, 65, 132, 4, 1, 167, 255, 231, 42, 180, 0, 64, 32]
abbrev dktX4_is_1 : List UInt8 := dkwX4_is_1 ++ dktX4_is_2
def dkwX4_is_0 : List UInt8 := [42, 180, 0, 48, 5, 159, 0, 5, 3, 172, 9, 65, 3, 54, 4, 21, 4, 43, 182, 0, 76, 162, 0, 22]
abbrev dktX4_is_0 : List UInt8 := dkwX4_is_0 ++ dktX4_is_1
theorem dksX4_is_0 : cX4_is.data.toList.drop 0 = dktX4_is_0 := by decide +kernel
theorem dksX4_is_1 : cX4_is.data.toList.drop 24 = dktX4_is_1 := dk_seg dksX4_is_0 24 rfl rfl
theorem dksX4_is_2 : cX4_is.data.toList.drop 48 = dktX4_is_2 := dk_seg dksX4_is_1 24 rfl rfl
theorem dX4_is_0 : decode cX4_is 0 = .ok (.aload_n 0, 1) := dk_42 (dk_at dksX4_is_0 0 rfl rfl)
theorem dX4_is_1 : decode cX4_is 1 = .ok (.getfield 48, 3) := dk_180 0 48 (dk_at dksX4_is_0 1 rfl rfl)
theorem dX4_is_4 : decode cX4_is 4 = .ok (.iconst 2, 1) := dk_5 (dk_at dksX4_is_0 4 rfl rfl)
theorem dX4_is_5 : decode cX4_is 5 = .ok (.if_icmp .eq 5, 3) := dk_159 0 5 (dk_at dksX4_is_0 5 rfl rfl)
theorem dX4_is_8 : decode cX4_is 8 = .ok (.iconst 0, 1) := dk_3 (dk_at dksX4_is_0 8 rfl rfl)
theorem dX4_is_9 : decode cX4_is 9 = .ok (.ireturn, 1) := dk_172 (dk_at dksX4_is_0 9 rfl rfl)
theorem dX4_is_10 : decode cX4_is 10 = .ok (.lconst 0, 1) := dk_9 (dk_at dksX4_is_0 10 rfl rfl)
theorem dX4_is_11 : decode cX4_is 11 = .ok (.lstore_n 2, 1) := dk_65 (dk_at dksX4_is_0 11 rfl rfl)
theorem dX4_is_12 : decode cX4_is 12 = .ok (.iconst 0, 1) := dk_3 (dk_at dksX4_is_0 12 rfl rfl)
theorem dX4_is_13 : decode cX4_is 13 = .ok (.istore 4, 2) := dk_54 4 (dk_at dksX4_is_0 13 rfl rfl)
theorem dX4_is_15 : decode cX4_is 15 = .ok (.iload 4, 2) := dk_21 4 (dk_at dksX4_is_0 15 rfl rfl)
theorem dX4_is_17 : decode cX4_is 17 = .ok (.aload_n 1, 1) := dk_43 (dk_at dksX4_is_0 17 rfl rfl)
theorem dX4_is_18 : decode cX4_is 18 = .ok (.invokevirtual 76, 3) := dk_182 0 76 (dk_at dksX4_is_0 18 rfl rfl)
theorem dX4_is_21 : decode cX4_is 21 = .ok (.if_icmp .ge 22, 3) := dk_162 0 22 (dk_at dksX4_is_0 21 rfl rfl)
theorem dX4_is_24 : decode cX4_is 24 = .ok (.lload_n 2, 1) := dk_32 (dk_at dksX4_is_1 0 rfl rfl)
theorem dX4_is_25 : decode cX4_is 25 = .ok (.bipush 8, 2) := dk_16 8 (dk_at dksX4_is_1 1 rfl rfl)
theorem dX4_is_27 : decode cX4_is 27 = .ok (.lshl, 1) := dk_121 (dk_at dksX4_is_1 3 rfl rfl)
theorem dX4_is_28 : decode cX4_is 28 = .ok (.aload_n 1, 1) := dk_43 (dk_at dksX4_is_1 4 rfl rfl)
theorem dX4_is_29 : decode cX4_is 29 = .ok (.iload 4, 2) := dk_21 4 (dk_at dksX4_is_1 5 rfl rfl)
theorem dX4_is_31 : decode cX4_is 31 = .ok (.invokevirtual 82, 3) := dk_182 0 82 (dk_at dksX4_is_1 7 rfl rfl)
theorem dX4_is_34 : decode cX4_is 34 = .ok (.i2l, 1) := dk_133 (dk_at dksX4_is_1 10 rfl rfl)
theorem dX4_is_35 : decode cX4_is 35 = .ok (.lor, 1) := dk_129 (dk_at dksX4_is_1 11 rfl rfl)
theorem dX4_is_36 : decode cX4_is 36 = .ok (.lstore_n 2, 1) := dk_65 (dk_at dksX4_is_1 12 rfl rfl)
theorem dX4_is_37 : decode cX4_is 37 = .ok (.iinc 4 1, 3) := dk_132 4 1 (dk_at dksX4_is_1 13 rfl rfl)
theorem dX4_is_40 : decode cX4_is 40 = .ok (.goto (-25), 3) := dk_167 255 231 (dk_at dksX4_is_1 16 rfl rfl)
theorem dX4_is_43 : decode cX4_is 43 = .ok (.aload_n 0, 1) := dk_42 (dk_at dksX4_is_1 19 rfl rfl)
theorem dX4_is_44 : decode cX4_is 44 = .ok (.getfield 64, 3) := dk_180 0 64 (dk_at dksX4_is_1 20 rfl rfl)
theorem dX4_is_47 : decode cX4_is 47 = .ok (.lload_n 2, 1) := dk_32 (dk_at dksX4_is_1 23 rfl rfl)
theorem dX4_is_48 : decode cX4_is 48 = .ok (.lcmp, 1) := dk_148 (dk_at dksX4_is_2 0 rfl rfl)
theorem dX4_is_49 : decode cX4_is 49 = .ok (.ifCond .ne 7, 3) := dk_154 0 7 (dk_at dksX4_is_2 1 rfl rfl)
theorem dX4_is_52 : decode cX4_is 52 = .ok (.iconst 1, 1) := dk_4 (dk_at dksX4_is_2 4 rfl rfl)
theorem dX4_is_53 : decode cX4_is 53 = .ok (.goto 4, 3) := dk_167 0 4 (dk_at dksX4_is_2 5 rfl rfl)
theorem dX4_is_56 : decode cX4_is 56 = .ok (.iconst 0, 1) := dk_3 (dk_at dksX4_is_2 8 rfl rfl)
theorem dX4_is_57 : decode cX4_is 57 = .ok (.ireturn, 1) := dk_172 (dk_at dksX4_is_2 9 rfl rfl)
abbrev cX4_tester : ByteArray := prog_6_method_15_code
def yX4_tester : MethodName := ⟨RX4, "tester", "()V"⟩
def dkwX4_tester_4 : List UInt8 := [181, 0, 146, 42, 180, 0, 18, 27, 181, 0, 108, 177]
abbrev dktX4_tester_4 : List UInt8 := dkwX4_tester_4 ++ []
def dkwX4_tester_3 : List UInt8 := [18, 140, 4, 7, 182, 0, 128, 181, 0, 142, 42, 180, 0, 18, 42, 18, 144, 5, 7, 182, 0, 128]
abbrev dktX4_tester_3 : List UInt8 := dkwX4_tester_3 ++ dktX4_tester_4
def dkwX4_tester_2 : List UInt8 := [181, 0, 134, 42, 180, 0, 18, 42, 18, 136, 4, 16, 6, 182, 0, 128, 181, 0, 138, 42, 180, 0, 18, 42]
abbrev dktX4_tester_2 : List UInt8 := dkwX4_tester_2 ++ dktX4_tester_3
def dkwX4_tester_1 : List UInt8 := [42, 18, 127, 4, 16, 6, 182, 0, 128, 60, 42, 180, 0, 18, 42, 18, 132, 7, 16, 16, 182, 0, 128]
abbrev dktX4_tester_1 : List UInt8 := dkwX4_tester_1 ++ dktX4_tester_2
def dkwX4_tester_0 : List UInt8 := [42, 42, 180, 0, 18, 180, 0, 108, 154, 0, 7, 4, 167, 0, 4, 3, 6, 182, 0, 90, 42, 182, 0, 94]
abbrev dktX4_tester_0 : List UInt8 := dkwX4_tester_0 ++ dktX4_tester_1
theorem dksX4_tester_0 : cX4_tester.data.toList.drop 0 = dktX4_tester_0 := by decide +kernel
theorem dksX4_tester_1 : cX4_tester.data.toList.drop 24 = dktX4_tester_1 := dk_seg dksX4_tester_0 24 rfl rfl
theorem dksX4_tester_2 : cX4_tester.data.toList.drop 47 = dktX4_tester_2 := dk_seg dksX4_tester_1 23 rfl rfl
theorem dksX4_tester_3 : cX4_tester.data.toList.drop 71 = dktX4_tester_3 := dk_seg dksX4_tester_2 24 rfl rfl
theorem dksX4_tester_4 : cX4_tester.data.toList.drop 93 = dktX4_tester_4 := dk_seg dksX4_tester_3 22 rfl rfl
theorem dX4_tester_0 : decode cX4_tester 0 = .ok (.aload_n 0, 1) := dk_42 (dk_at dksX4_tester_0 0 rfl rfl)
theorem dX4_tester_1 : decode cX4_tester 1 = .ok (.aload_n 0, 1) := dk_42 (dk_at dksX4_tester_0 1 rfl rfl)
theorem dX4_tester_2 : decode cX4_tester 2 = .ok (.getfield 18, 3) := dk_180 0 18 (dk_at dksX4_tester_0 2 rfl rfl)
theorem dX4_tester_5 : decode cX4_tester 5 = .ok (.getfield 108, 3) := dk_180 0 108 (dk_at dksX4_tester_0 5 rfl rfl)
theorem dX4_tester_8 : decode cX4_tester 8 = .ok (.ifCond .ne 7, 3) := dk_154 0 7 (dk_at dksX4_tester_0 8 rfl rfl)
theorem dX4_tester_11 : decode cX4_tester 11 = .ok (.iconst 1, 1) := dk_4 (dk_at dksX4_tester_0 11 rfl rfl)
theorem dX4_tester_12 : decode cX4_tester 12 = .ok (.goto 4, 3) := dk_167 0 4 (dk_at dksX4_tester_0 12 rfl rfl)
theorem dX4_tester_15 : decode cX4_tester 15 = .ok (.iconst 0, 1) := dk_3 (dk_at dksX4_tester_0 15 rfl rfl)
theorem dX4_tester_16 : decode cX4_tester 16 = .ok (.iconst 3, 1) := dk_6 (dk_at dksX4_tester_0 16 rfl rfl)
theorem dX4_tester_17 : decode cX4_tester 17 = .ok (.invokevirtual 90, 3) := dk_182 0 90 (dk_at dksX4_tester_0 17 rfl rfl)
theorem dX4_tester_20 : decode cX4_tester 20 = .ok (.aload_n 0, 1) := dk_42 (dk_at dksX4_tester_0 20 rfl rfl)
theorem dX4_tester_21 : decode cX4_tester 21 = .ok (.invokevirtual 94, 3) := dk_182 0 94 (dk_at dksX4_tester_0 21 rfl rfl)
theorem dX4_tester_24 : decode cX4_tester 24 = .ok (.aload_n 0, 1) := dk_42 (dk_at dksX4_tester_1 0 rfl rfl)
theorem dX4_tester_25 : decode cX4_tester 25 = .ok (.ldc 127, 2) := dk_18 127 (dk_at dksX4_tester_1 1 rfl rfl)
theorem dX4_tester_27 : decode cX4_tester 27 = .ok (.iconst 1, 1) := dk_4 (dk_at dksX4_tester_1 3 rfl rfl)
theorem dX4_tester_28 : decode cX4_tester 28 = .ok (.bipush 6, 2) := dk_16 6 (dk_at dksX4_tester_1 4 rfl rfl)
theorem dX4_tester_30 : decode cX4_tester 30 = .ok (.invokevirtual 128, 3) := dk_182 0 128 (dk_at dksX4_tester_1 6 rfl rfl)
theorem dX4_tester_33 : decode cX4_tester 33 = .ok (.istore_n 1, 1) := dk_60 (dk_at dksX4_tester_1 9 rfl rfl)
theorem dX4_tester_34 : decode cX4_tester 34 = .ok (.aload_n 0, 1) := dk_42 (dk_at dksX4_tester_1 10 rfl rfl)
theorem dX4_tester_35 : decode cX4_tester 35 = .ok (.getfield 18, 3) := dk_180 0 18 (dk_at dksX4_tester_1 11 rfl rfl)
theorem dX4_tester_38 : decode cX4_tester 38 = .ok (.aload_n 0, 1) := dk_42 (dk_at dksX4_tester_1 14 rfl rfl)
theorem dX4_tester_39 : decode cX4_tester 39 = .ok (.ldc 132, 2) := dk_18 132 (dk_at dksX4_tester_1 15 rfl rfl)
theorem dX4_tester_41 : decode cX4_tester 41 = .ok (.iconst 4, 1) := dk_7 (dk_at dksX4_tester_1 17 rfl rfl)
theorem dX4_tester_42 : decode cX4_tester 42 = .ok (.bipush 16, 2) := dk_16 16 (dk_at dksX4_tester_1 18 rfl rfl)
theorem dX4_tester_44 : decode cX4_tester 44 = .ok (.invokevirtual 128, 3) := dk_182 0 128 (dk_at dksX4_tester_1 20 rfl rfl)
theorem dX4_tester_47 : decode cX4_tester 47 = .ok (.putfield 134, 3) := dk_181 0 134 (dk_at dksX4_tester_2 0 rfl rfl)
theorem dX4_tester_50 : decode cX4_tester 50 = .ok (.aload_n 0, 1) := dk_42 (dk_at dksX4_tester_2 3 rfl rfl)
theorem dX4_tester_51 : decode cX4_tester 51 = .ok (.getfield 18, 3) := dk_180 0 18 (dk_at dksX4_tester_2 4 rfl rfl)
theorem dX4_tester_54 : decode cX4_tester 54 = .ok (.aload_n 0, 1) := dk_42 (dk_at dksX4_tester_2 7 rfl rfl)
theorem dX4_tester_55 : decode cX4_tester 55 = .ok (.ldc 136, 2) := dk_18 136 (dk_at dksX4_tester_2 8 rfl rfl)
theorem dX4_tester_57 : decode cX4_tester 57 = .ok (.iconst 1, 1) := dk_4 (dk_at dksX4_tester_2 10 rfl rfl)
theorem dX4_tester_58 : decode cX4_tester 58 = .ok (.bipush 6, 2) := dk_16 6 (dk_at dksX4_tester_2 11 rfl rfl)
theorem dX4_tester_60 : decode cX4_tester 60 = .ok (.invokevirtual 128, 3) := dk_182 0 128 (dk_at dksX4_tester_2 13 rfl rfl)
theorem dX4_tester_63 : decode cX4_tester 63 = .ok (.putfield 138, 3) := dk_181 0 138 (dk_at dksX4_tester_2 16 rfl rfl)
theorem dX4_tester_66 : decode cX4_tester 66 = .ok (.aload_n 0, 1) := dk_42 (dk_at dksX4_tester_2 19 rfl rfl)
theorem dX4_tester_67 : decode cX4_tester 67 = .ok (.getfield 18, 3) := dk_180 0 18 (dk_at dksX4_tester_2 20 rfl rfl)
theorem dX4_tester_70 : decode cX4_tester 70 = .ok (.aload_n 0, 1) := dk_42 (dk_at dksX4_tester_2 23 rfl rfl)
theorem dX4_tester_71 : decode cX4_tester 71 = .ok (.ldc 140, 2) := dk_18 140 (dk_at dksX4_tester_3 0 rfl rfl)
theorem dX4_tester_73 : decode cX4_tester 73 = .ok (.iconst 1, 1) := dk_4 (dk_at dksX4_tester_3 2 rfl rfl)
theorem dX4_tester_74 : decode cX4_tester 74 = .ok (.iconst 4, 1) := dk_7 (dk_at dksX4_tester_3 3 rfl rfl)
theorem dX4_tester_75 : decode cX4_tester 75 = .ok (.invokevirtual 128, 3) := dk_182 0 128 (dk_at dksX4_tester_3 4 rfl rfl)
theorem dX4_tester_78 : decode cX4_tester 78 = .ok (.putfield 142, 3) := dk_181 0 142 (dk_at dksX4_tester_3 7 rfl rfl)
theorem dX4_tester_81 : decode cX4_tester 81 = .ok (.aload_n 0, 1) := dk_42 (dk_at dksX4_tester_3 10 rfl rfl)
theorem dX4_tester_82 : decode cX4_tester 82 = .ok (.getfield 18, 3) := dk_180 0 18 (dk_at dksX4_tester_3 11 rfl rfl)
theorem dX4_tester_85 : decode cX4_tester 85 = .ok (.aload_n 0, 1) := dk_42 (dk_at dksX4_tester_3 14 rfl rfl)
theorem dX4_tester_86 : decode cX4_tester 86 = .ok (.ldc 144, 2) := dk_18 144 (dk_at dksX4_tester_3 15 rfl rfl)
theorem dX4_tester_88 : decode cX4_tester 88 = .ok (.iconst 2, 1) := dk_5 (dk_at dksX4_tester_3 17 rfl rfl)
theorem dX4_tester_89 : decode cX4_tester 89 = .ok (.iconst 4, 1) := dk_7 (dk_at dksX4_tester_3 18 rfl rfl)
theorem dX4_tester_90 : decode cX4_tester 90 = .ok (.invokevirtual 128, 3) := dk_182 0 128 (dk_at dksX4_tester_3 19 rfl rfl)
theorem dX4_tester_93 : decode cX4_tester 93 = .ok (.putfield 146, 3) := dk_181 0 146 (dk_at dksX4_tester_4 0 rfl rfl)
theorem dX4_tester_96 : decode cX4_tester 96 = .ok (.aload_n 0, 1) := dk_42 (dk_at dksX4_tester_4 3 rfl rfl)
theorem dX4_tester_97 : decode cX4_tester 97 = .ok (.getfield 18, 3) := dk_180 0 18 (dk_at dksX4_tester_4 4 rfl rfl)
theorem dX4_tester_100 : decode cX4_tester 100 = .ok (.iload_n 1, 1) := dk_27 (dk_at dksX4_tester_4 7 rfl rfl)
theorem dX4_tester_101 : decode cX4_tester 101 = .ok (.putfield 108, 3) := dk_181 0 108 (dk_at dksX4_tester_4 8 rfl rfl)
theorem dX4_tester_104 : decode cX4_tester 104 = .ok (.return_, 1) := dk_177 (dk_at dksX4_tester_4 11 rfl rfl)
abbrev cX4_need : ByteArray := prog_6_method_8_code
def yX4_need : MethodName := ⟨RX4, "need", "(ZI)V"⟩
def dkwX4_need_0 : List UInt8 := [27, 154, 0, 16, 187, 0, 71, 89, 28, 42, 180, 0, 45, 183, 0, 73, 191, 177]
abbrev dktX4_need_0 : List UInt8 := dkwX4_need_0 ++ []
theorem dksX4_need_0 : cX4_need.data.toList.drop 0 = dktX4_need_0 := by decide +kernel
theorem dX4_need_0 : decode cX4_need 0 = .ok (.iload_n 1, 1) := dk_27 (dk_at dksX4_need_0 0 rfl rfl)
theorem dX4_need_1 : decode cX4_need 1 = .ok (.ifCond .ne 16, 3) := dk_154 0 16 (dk_at dksX4_need_0 1 rfl rfl)
theorem dX4_need_4 : decode cX4_need 4 = .ok (.new 71, 3) := dk_187 0 71 (dk_at dksX4_need_0 4 rfl rfl)
theorem dX4_need_7 : decode cX4_need 7 = .ok (.dup, 1) := dk_89 (dk_at dksX4_need_0 7 rfl rfl)
theorem dX4_need_8 : decode cX4_need 8 = .ok (.iload_n 2, 1) := dk_28 (dk_at dksX4_need_0 8 rfl rfl)
theorem dX4_need_9 : decode cX4_need 9 = .ok (.aload_n 0, 1) := dk_42 (dk_at dksX4_need_0 9 rfl rfl)
theorem dX4_need_10 : decode cX4_need 10 = .ok (.getfield 45, 3) := dk_180 0 45 (dk_at dksX4_need_0 10 rfl rfl)
theorem dX4_need_13 : decode cX4_need 13 = .ok (.invokespecial 73, 3) := dk_183 0 73 (dk_at dksX4_need_0 13 rfl rfl)
theorem dX4_need_16 : decode cX4_need 16 = .ok (.athrow, 1) := dk_191 (dk_at dksX4_need_0 16 rfl rfl)
theorem dX4_need_17 : decode cX4_need 17 = .ok (.return_, 1) := dk_177 (dk_at dksX4_need_0 17 rfl rfl)
abbrev cX4_part : ByteArray := prog_6_method_12_code
def yX4_part : MethodName := ⟨RX4, "part", "(Ljava/lang/String;II)I"⟩
def dkwX4_part_0 : List UInt8 := [42, 43, 182, 0, 97, 42, 28, 29, 182, 0, 101, 54, 4, 42, 182, 0, 94, 21, 4, 172]
abbrev dktX4_part_0 : List UInt8 := dkwX4_part_0 ++ []
theorem dksX4_part_0 : cX4_part.data.toList.drop 0 = dktX4_part_0 := by decide +kernel
theorem dX4_part_0 : decode cX4_part 0 = .ok (.aload_n 0, 1) := dk_42 (dk_at dksX4_part_0 0 rfl rfl)
theorem dX4_part_1 : decode cX4_part 1 = .ok (.aload_n 1, 1) := dk_43 (dk_at dksX4_part_0 1 rfl rfl)
theorem dX4_part_2 : decode cX4_part 2 = .ok (.invokevirtual 97, 3) := dk_182 0 97 (dk_at dksX4_part_0 2 rfl rfl)
theorem dX4_part_5 : decode cX4_part 5 = .ok (.aload_n 0, 1) := dk_42 (dk_at dksX4_part_0 5 rfl rfl)
theorem dX4_part_6 : decode cX4_part 6 = .ok (.iload_n 2, 1) := dk_28 (dk_at dksX4_part_0 6 rfl rfl)
theorem dX4_part_7 : decode cX4_part 7 = .ok (.iload_n 3, 1) := dk_29 (dk_at dksX4_part_0 7 rfl rfl)
theorem dX4_part_8 : decode cX4_part 8 = .ok (.invokevirtual 101, 3) := dk_182 0 101 (dk_at dksX4_part_0 8 rfl rfl)
theorem dX4_part_11 : decode cX4_part 11 = .ok (.istore 4, 2) := dk_54 4 (dk_at dksX4_part_0 11 rfl rfl)
theorem dX4_part_13 : decode cX4_part 13 = .ok (.aload_n 0, 1) := dk_42 (dk_at dksX4_part_0 13 rfl rfl)
theorem dX4_part_14 : decode cX4_part 14 = .ok (.invokevirtual 94, 3) := dk_182 0 94 (dk_at dksX4_part_0 14 rfl rfl)
theorem dX4_part_17 : decode cX4_part 17 = .ok (.iload 4, 2) := dk_21 4 (dk_at dksX4_part_0 17 rfl rfl)
theorem dX4_part_19 : decode cX4_part 19 = .ok (.ireturn, 1) := dk_172 (dk_at dksX4_part_0 19 rfl rfl)
abbrev cX4_expect : ByteArray := prog_6_method_10_code
def yX4_expect : MethodName := ⟨RX4, "expect", "(Ljava/lang/String;)V"⟩
def dkwX4_expect_0 : List UInt8 := [42, 42, 43, 182, 0, 86, 4, 182, 0, 90, 42, 182, 0, 94, 177]
abbrev dktX4_expect_0 : List UInt8 := dkwX4_expect_0 ++ []
theorem dksX4_expect_0 : cX4_expect.data.toList.drop 0 = dktX4_expect_0 := by decide +kernel
theorem dX4_expect_0 : decode cX4_expect 0 = .ok (.aload_n 0, 1) := dk_42 (dk_at dksX4_expect_0 0 rfl rfl)
theorem dX4_expect_1 : decode cX4_expect 1 = .ok (.aload_n 0, 1) := dk_42 (dk_at dksX4_expect_0 1 rfl rfl)
theorem dX4_expect_2 : decode cX4_expect 2 = .ok (.aload_n 1, 1) := dk_43 (dk_at dksX4_expect_0 2 rfl rfl)
theorem dX4_expect_3 : decode cX4_expect 3 = .ok (.invokevirtual 86, 3) := dk_182 0 86 (dk_at dksX4_expect_0 3 rfl rfl)
theorem dX4_expect_6 : decode cX4_expect 6 = .ok (.iconst 1, 1) := dk_4 (dk_at dksX4_expect_0 6 rfl rfl)
theorem dX4_expect_7 : decode cX4_expect 7 = .ok (.invokevirtual 90, 3) := dk_182 0 90 (dk_at dksX4_expect_0 7 rfl rfl)
theorem dX4_expect_10 : decode cX4_expect 10 = .ok (.aload_n 0, 1) := dk_42 (dk_at dksX4_expect_0 10 rfl rfl)
theorem dX4_expect_11 : decode cX4_expect 11 = .ok (.invokevirtual 94, 3) := dk_182 0 94 (dk_at dksX4_expect_0 11 rfl rfl)
theorem dX4_expect_14 : decode cX4_expect 14 = .ok (.return_, 1) := dk_177 (dk_at dksX4_expect_0 14 rfl rfl)
abbrev cX4_at : ByteArray := prog_6_method_11_code
def yX4_at : MethodName := ⟨RX4, "at", "(II)I"⟩
def dkwX4_at_1 : List UInt8 := [28, 184, 0, 38, 5, 182, 0, 90, 42, 180, 0, 68, 172]
abbrev dktX4_at_1 : List UInt8 := dkwX4_at_1 ++ []
def dkwX4_at_0 : List UInt8 := [42, 42, 180, 0, 48, 6, 160, 0, 7, 4, 167, 0, 4, 3, 4, 182, 0, 90, 42, 42, 180, 0, 68, 27]
abbrev dktX4_at_0 : List UInt8 := dkwX4_at_0 ++ dktX4_at_1
theorem dksX4_at_0 : cX4_at.data.toList.drop 0 = dktX4_at_0 := by decide +kernel
theorem dksX4_at_1 : cX4_at.data.toList.drop 24 = dktX4_at_1 := dk_seg dksX4_at_0 24 rfl rfl
theorem dX4_at_0 : decode cX4_at 0 = .ok (.aload_n 0, 1) := dk_42 (dk_at dksX4_at_0 0 rfl rfl)
theorem dX4_at_1 : decode cX4_at 1 = .ok (.aload_n 0, 1) := dk_42 (dk_at dksX4_at_0 1 rfl rfl)
theorem dX4_at_2 : decode cX4_at 2 = .ok (.getfield 48, 3) := dk_180 0 48 (dk_at dksX4_at_0 2 rfl rfl)
theorem dX4_at_5 : decode cX4_at 5 = .ok (.iconst 3, 1) := dk_6 (dk_at dksX4_at_0 5 rfl rfl)
theorem dX4_at_6 : decode cX4_at 6 = .ok (.if_icmp .ne 7, 3) := dk_160 0 7 (dk_at dksX4_at_0 6 rfl rfl)
theorem dX4_at_9 : decode cX4_at 9 = .ok (.iconst 1, 1) := dk_4 (dk_at dksX4_at_0 9 rfl rfl)
theorem dX4_at_10 : decode cX4_at 10 = .ok (.goto 4, 3) := dk_167 0 4 (dk_at dksX4_at_0 10 rfl rfl)
theorem dX4_at_13 : decode cX4_at 13 = .ok (.iconst 0, 1) := dk_3 (dk_at dksX4_at_0 13 rfl rfl)
theorem dX4_at_14 : decode cX4_at 14 = .ok (.iconst 1, 1) := dk_4 (dk_at dksX4_at_0 14 rfl rfl)
theorem dX4_at_15 : decode cX4_at 15 = .ok (.invokevirtual 90, 3) := dk_182 0 90 (dk_at dksX4_at_0 15 rfl rfl)
theorem dX4_at_18 : decode cX4_at 18 = .ok (.aload_n 0, 1) := dk_42 (dk_at dksX4_at_0 18 rfl rfl)
theorem dX4_at_19 : decode cX4_at 19 = .ok (.aload_n 0, 1) := dk_42 (dk_at dksX4_at_0 19 rfl rfl)
theorem dX4_at_20 : decode cX4_at 20 = .ok (.getfield 68, 3) := dk_180 0 68 (dk_at dksX4_at_0 20 rfl rfl)
theorem dX4_at_23 : decode cX4_at 23 = .ok (.iload_n 1, 1) := dk_27 (dk_at dksX4_at_0 23 rfl rfl)
theorem dX4_at_24 : decode cX4_at 24 = .ok (.iload_n 2, 1) := dk_28 (dk_at dksX4_at_1 0 rfl rfl)
theorem dX4_at_25 : decode cX4_at 25 = .ok (.invokestatic 38, 3) := dk_184 0 38 (dk_at dksX4_at_1 1 rfl rfl)
theorem dX4_at_28 : decode cX4_at 28 = .ok (.iconst 2, 1) := dk_5 (dk_at dksX4_at_1 4 rfl rfl)
theorem dX4_at_29 : decode cX4_at 29 = .ok (.invokevirtual 90, 3) := dk_182 0 90 (dk_at dksX4_at_1 5 rfl rfl)
theorem dX4_at_32 : decode cX4_at 32 = .ok (.aload_n 0, 1) := dk_42 (dk_at dksX4_at_1 8 rfl rfl)
theorem dX4_at_33 : decode cX4_at 33 = .ok (.getfield 68, 3) := dk_180 0 68 (dk_at dksX4_at_1 9 rfl rfl)
theorem dX4_at_36 : decode cX4_at 36 = .ok (.ireturn, 1) := dk_172 (dk_at dksX4_at_1 12 rfl rfl)
abbrev cX4_ear : ByteArray := prog_6_method_16_code
def yX4_ear : MethodName := ⟨RX4, "ear", "(I)V"⟩
def dkwX4_ear_7 : List UInt8 := [84, 177]
abbrev dktX4_ear_7 : List UInt8 := dkwX4_ear_7 ++ []
def dkwX4_ear_6 : List UInt8 := [167, 0, 4, 3, 7, 182, 0, 90, 42, 182, 0, 94, 132, 2, 1, 167, 255, 199, 42, 180, 0, 22, 27, 4]
abbrev dktX4_ear_6 : List UInt8 := dkwX4_ear_6 ++ dktX4_ear_7
def dkwX4_ear_5 : List UInt8 := [3, 16, 24, 182, 0, 101, 182, 0, 150, 42, 42, 180, 0, 18, 27, 28, 182, 0, 156, 155, 0, 7, 4]
abbrev dktX4_ear_5 : List UInt8 := dkwX4_ear_5 ++ dktX4_ear_6
def dkwX4_ear_4 : List UInt8 := [182, 0, 97, 3, 61, 28, 42, 180, 0, 18, 180, 0, 108, 162, 0, 52, 42, 180, 0, 18, 4, 27, 28, 42]
abbrev dktX4_ear_4 : List UInt8 := dkwX4_ear_4 ++ dktX4_ear_5
def dkwX4_ear_3 : List UInt8 := [3, 16, 24, 182, 0, 101, 182, 0, 150, 42, 182, 0, 94, 132, 2, 1, 167, 255, 221, 42, 18, 154]
abbrev dktX4_ear_3 : List UInt8 := dkwX4_ear_3 ++ dktX4_ear_4
def dkwX4_ear_2 : List UInt8 := [182, 0, 97, 3, 61, 28, 42, 180, 0, 18, 180, 0, 108, 162, 0, 30, 42, 180, 0, 18, 3, 27, 28, 42]
abbrev dktX4_ear_2 : List UInt8 := dkwX4_ear_2 ++ dktX4_ear_3
def dkwX4_ear_1 : List UInt8 := [180, 0, 108, 158, 0, 7, 4, 167, 0, 4, 3, 16, 6, 182, 0, 90, 42, 182, 0, 94, 42, 18, 148]
abbrev dktX4_ear_1 : List UInt8 := dkwX4_ear_1 ++ dktX4_ear_2
def dkwX4_ear_0 : List UInt8 := [42, 42, 180, 0, 22, 27, 51, 154, 0, 7, 4, 167, 0, 4, 3, 6, 182, 0, 90, 42, 42, 180, 0, 18]
abbrev dktX4_ear_0 : List UInt8 := dkwX4_ear_0 ++ dktX4_ear_1
theorem dksX4_ear_0 : cX4_ear.data.toList.drop 0 = dktX4_ear_0 := by decide +kernel
theorem dksX4_ear_1 : cX4_ear.data.toList.drop 24 = dktX4_ear_1 := dk_seg dksX4_ear_0 24 rfl rfl
theorem dksX4_ear_2 : cX4_ear.data.toList.drop 47 = dktX4_ear_2 := dk_seg dksX4_ear_1 23 rfl rfl
theorem dksX4_ear_3 : cX4_ear.data.toList.drop 71 = dktX4_ear_3 := dk_seg dksX4_ear_2 24 rfl rfl
theorem dksX4_ear_4 : cX4_ear.data.toList.drop 93 = dktX4_ear_4 := dk_seg dksX4_ear_3 22 rfl rfl
theorem dksX4_ear_5 : cX4_ear.data.toList.drop 117 = dktX4_ear_5 := dk_seg dksX4_ear_4 24 rfl rfl
theorem dksX4_ear_6 : cX4_ear.data.toList.drop 140 = dktX4_ear_6 := dk_seg dksX4_ear_5 23 rfl rfl
theorem dksX4_ear_7 : cX4_ear.data.toList.drop 164 = dktX4_ear_7 := dk_seg dksX4_ear_6 24 rfl rfl
theorem dX4_ear_0 : decode cX4_ear 0 = .ok (.aload_n 0, 1) := dk_42 (dk_at dksX4_ear_0 0 rfl rfl)
theorem dX4_ear_1 : decode cX4_ear 1 = .ok (.aload_n 0, 1) := dk_42 (dk_at dksX4_ear_0 1 rfl rfl)
theorem dX4_ear_2 : decode cX4_ear 2 = .ok (.getfield 22, 3) := dk_180 0 22 (dk_at dksX4_ear_0 2 rfl rfl)
theorem dX4_ear_5 : decode cX4_ear 5 = .ok (.iload_n 1, 1) := dk_27 (dk_at dksX4_ear_0 5 rfl rfl)
theorem dX4_ear_6 : decode cX4_ear 6 = .ok (.baload, 1) := dk_51 (dk_at dksX4_ear_0 6 rfl rfl)
theorem dX4_ear_7 : decode cX4_ear 7 = .ok (.ifCond .ne 7, 3) := dk_154 0 7 (dk_at dksX4_ear_0 7 rfl rfl)
theorem dX4_ear_10 : decode cX4_ear 10 = .ok (.iconst 1, 1) := dk_4 (dk_at dksX4_ear_0 10 rfl rfl)
theorem dX4_ear_11 : decode cX4_ear 11 = .ok (.goto 4, 3) := dk_167 0 4 (dk_at dksX4_ear_0 11 rfl rfl)
theorem dX4_ear_14 : decode cX4_ear 14 = .ok (.iconst 0, 1) := dk_3 (dk_at dksX4_ear_0 14 rfl rfl)
theorem dX4_ear_15 : decode cX4_ear 15 = .ok (.iconst 3, 1) := dk_6 (dk_at dksX4_ear_0 15 rfl rfl)
theorem dX4_ear_16 : decode cX4_ear 16 = .ok (.invokevirtual 90, 3) := dk_182 0 90 (dk_at dksX4_ear_0 16 rfl rfl)
theorem dX4_ear_19 : decode cX4_ear 19 = .ok (.aload_n 0, 1) := dk_42 (dk_at dksX4_ear_0 19 rfl rfl)
theorem dX4_ear_20 : decode cX4_ear 20 = .ok (.aload_n 0, 1) := dk_42 (dk_at dksX4_ear_0 20 rfl rfl)
theorem dX4_ear_21 : decode cX4_ear 21 = .ok (.getfield 18, 3) := dk_180 0 18 (dk_at dksX4_ear_0 21 rfl rfl)
theorem dX4_ear_24 : decode cX4_ear 24 = .ok (.getfield 108, 3) := dk_180 0 108 (dk_at dksX4_ear_1 0 rfl rfl)
theorem dX4_ear_27 : decode cX4_ear 27 = .ok (.ifCond .le 7, 3) := dk_158 0 7 (dk_at dksX4_ear_1 3 rfl rfl)
theorem dX4_ear_30 : decode cX4_ear 30 = .ok (.iconst 1, 1) := dk_4 (dk_at dksX4_ear_1 6 rfl rfl)
theorem dX4_ear_31 : decode cX4_ear 31 = .ok (.goto 4, 3) := dk_167 0 4 (dk_at dksX4_ear_1 7 rfl rfl)
theorem dX4_ear_34 : decode cX4_ear 34 = .ok (.iconst 0, 1) := dk_3 (dk_at dksX4_ear_1 10 rfl rfl)
theorem dX4_ear_35 : decode cX4_ear 35 = .ok (.bipush 6, 2) := dk_16 6 (dk_at dksX4_ear_1 11 rfl rfl)
theorem dX4_ear_37 : decode cX4_ear 37 = .ok (.invokevirtual 90, 3) := dk_182 0 90 (dk_at dksX4_ear_1 13 rfl rfl)
theorem dX4_ear_40 : decode cX4_ear 40 = .ok (.aload_n 0, 1) := dk_42 (dk_at dksX4_ear_1 16 rfl rfl)
theorem dX4_ear_41 : decode cX4_ear 41 = .ok (.invokevirtual 94, 3) := dk_182 0 94 (dk_at dksX4_ear_1 17 rfl rfl)
theorem dX4_ear_44 : decode cX4_ear 44 = .ok (.aload_n 0, 1) := dk_42 (dk_at dksX4_ear_1 20 rfl rfl)
theorem dX4_ear_45 : decode cX4_ear 45 = .ok (.ldc 148, 2) := dk_18 148 (dk_at dksX4_ear_1 21 rfl rfl)
theorem dX4_ear_47 : decode cX4_ear 47 = .ok (.invokevirtual 97, 3) := dk_182 0 97 (dk_at dksX4_ear_2 0 rfl rfl)
theorem dX4_ear_50 : decode cX4_ear 50 = .ok (.iconst 0, 1) := dk_3 (dk_at dksX4_ear_2 3 rfl rfl)
theorem dX4_ear_51 : decode cX4_ear 51 = .ok (.istore_n 2, 1) := dk_61 (dk_at dksX4_ear_2 4 rfl rfl)
theorem dX4_ear_52 : decode cX4_ear 52 = .ok (.iload_n 2, 1) := dk_28 (dk_at dksX4_ear_2 5 rfl rfl)
theorem dX4_ear_53 : decode cX4_ear 53 = .ok (.aload_n 0, 1) := dk_42 (dk_at dksX4_ear_2 6 rfl rfl)
theorem dX4_ear_54 : decode cX4_ear 54 = .ok (.getfield 18, 3) := dk_180 0 18 (dk_at dksX4_ear_2 7 rfl rfl)
theorem dX4_ear_57 : decode cX4_ear 57 = .ok (.getfield 108, 3) := dk_180 0 108 (dk_at dksX4_ear_2 10 rfl rfl)
theorem dX4_ear_60 : decode cX4_ear 60 = .ok (.if_icmp .ge 30, 3) := dk_162 0 30 (dk_at dksX4_ear_2 13 rfl rfl)
theorem dX4_ear_63 : decode cX4_ear 63 = .ok (.aload_n 0, 1) := dk_42 (dk_at dksX4_ear_2 16 rfl rfl)
theorem dX4_ear_64 : decode cX4_ear 64 = .ok (.getfield 18, 3) := dk_180 0 18 (dk_at dksX4_ear_2 17 rfl rfl)
theorem dX4_ear_67 : decode cX4_ear 67 = .ok (.iconst 0, 1) := dk_3 (dk_at dksX4_ear_2 20 rfl rfl)
theorem dX4_ear_68 : decode cX4_ear 68 = .ok (.iload_n 1, 1) := dk_27 (dk_at dksX4_ear_2 21 rfl rfl)
theorem dX4_ear_69 : decode cX4_ear 69 = .ok (.iload_n 2, 1) := dk_28 (dk_at dksX4_ear_2 22 rfl rfl)
theorem dX4_ear_70 : decode cX4_ear 70 = .ok (.aload_n 0, 1) := dk_42 (dk_at dksX4_ear_2 23 rfl rfl)
theorem dX4_ear_71 : decode cX4_ear 71 = .ok (.iconst 0, 1) := dk_3 (dk_at dksX4_ear_3 0 rfl rfl)
theorem dX4_ear_72 : decode cX4_ear 72 = .ok (.bipush 24, 2) := dk_16 24 (dk_at dksX4_ear_3 1 rfl rfl)
theorem dX4_ear_74 : decode cX4_ear 74 = .ok (.invokevirtual 101, 3) := dk_182 0 101 (dk_at dksX4_ear_3 3 rfl rfl)
theorem dX4_ear_77 : decode cX4_ear 77 = .ok (.invokevirtual 150, 3) := dk_182 0 150 (dk_at dksX4_ear_3 6 rfl rfl)
theorem dX4_ear_80 : decode cX4_ear 80 = .ok (.aload_n 0, 1) := dk_42 (dk_at dksX4_ear_3 9 rfl rfl)
theorem dX4_ear_81 : decode cX4_ear 81 = .ok (.invokevirtual 94, 3) := dk_182 0 94 (dk_at dksX4_ear_3 10 rfl rfl)
theorem dX4_ear_84 : decode cX4_ear 84 = .ok (.iinc 2 1, 3) := dk_132 2 1 (dk_at dksX4_ear_3 13 rfl rfl)
theorem dX4_ear_87 : decode cX4_ear 87 = .ok (.goto (-35), 3) := dk_167 255 221 (dk_at dksX4_ear_3 16 rfl rfl)
theorem dX4_ear_90 : decode cX4_ear 90 = .ok (.aload_n 0, 1) := dk_42 (dk_at dksX4_ear_3 19 rfl rfl)
theorem dX4_ear_91 : decode cX4_ear 91 = .ok (.ldc 154, 2) := dk_18 154 (dk_at dksX4_ear_3 20 rfl rfl)
theorem dX4_ear_93 : decode cX4_ear 93 = .ok (.invokevirtual 97, 3) := dk_182 0 97 (dk_at dksX4_ear_4 0 rfl rfl)
theorem dX4_ear_96 : decode cX4_ear 96 = .ok (.iconst 0, 1) := dk_3 (dk_at dksX4_ear_4 3 rfl rfl)
theorem dX4_ear_97 : decode cX4_ear 97 = .ok (.istore_n 2, 1) := dk_61 (dk_at dksX4_ear_4 4 rfl rfl)
theorem dX4_ear_98 : decode cX4_ear 98 = .ok (.iload_n 2, 1) := dk_28 (dk_at dksX4_ear_4 5 rfl rfl)
theorem dX4_ear_99 : decode cX4_ear 99 = .ok (.aload_n 0, 1) := dk_42 (dk_at dksX4_ear_4 6 rfl rfl)
theorem dX4_ear_100 : decode cX4_ear 100 = .ok (.getfield 18, 3) := dk_180 0 18 (dk_at dksX4_ear_4 7 rfl rfl)
theorem dX4_ear_103 : decode cX4_ear 103 = .ok (.getfield 108, 3) := dk_180 0 108 (dk_at dksX4_ear_4 10 rfl rfl)
theorem dX4_ear_106 : decode cX4_ear 106 = .ok (.if_icmp .ge 52, 3) := dk_162 0 52 (dk_at dksX4_ear_4 13 rfl rfl)
theorem dX4_ear_109 : decode cX4_ear 109 = .ok (.aload_n 0, 1) := dk_42 (dk_at dksX4_ear_4 16 rfl rfl)
theorem dX4_ear_110 : decode cX4_ear 110 = .ok (.getfield 18, 3) := dk_180 0 18 (dk_at dksX4_ear_4 17 rfl rfl)
theorem dX4_ear_113 : decode cX4_ear 113 = .ok (.iconst 1, 1) := dk_4 (dk_at dksX4_ear_4 20 rfl rfl)
theorem dX4_ear_114 : decode cX4_ear 114 = .ok (.iload_n 1, 1) := dk_27 (dk_at dksX4_ear_4 21 rfl rfl)
theorem dX4_ear_115 : decode cX4_ear 115 = .ok (.iload_n 2, 1) := dk_28 (dk_at dksX4_ear_4 22 rfl rfl)
theorem dX4_ear_116 : decode cX4_ear 116 = .ok (.aload_n 0, 1) := dk_42 (dk_at dksX4_ear_4 23 rfl rfl)
theorem dX4_ear_117 : decode cX4_ear 117 = .ok (.iconst 0, 1) := dk_3 (dk_at dksX4_ear_5 0 rfl rfl)
theorem dX4_ear_118 : decode cX4_ear 118 = .ok (.bipush 24, 2) := dk_16 24 (dk_at dksX4_ear_5 1 rfl rfl)
theorem dX4_ear_120 : decode cX4_ear 120 = .ok (.invokevirtual 101, 3) := dk_182 0 101 (dk_at dksX4_ear_5 3 rfl rfl)
theorem dX4_ear_123 : decode cX4_ear 123 = .ok (.invokevirtual 150, 3) := dk_182 0 150 (dk_at dksX4_ear_5 6 rfl rfl)
theorem dX4_ear_126 : decode cX4_ear 126 = .ok (.aload_n 0, 1) := dk_42 (dk_at dksX4_ear_5 9 rfl rfl)
theorem dX4_ear_127 : decode cX4_ear 127 = .ok (.aload_n 0, 1) := dk_42 (dk_at dksX4_ear_5 10 rfl rfl)
theorem dX4_ear_128 : decode cX4_ear 128 = .ok (.getfield 18, 3) := dk_180 0 18 (dk_at dksX4_ear_5 11 rfl rfl)
theorem dX4_ear_131 : decode cX4_ear 131 = .ok (.iload_n 1, 1) := dk_27 (dk_at dksX4_ear_5 14 rfl rfl)
theorem dX4_ear_132 : decode cX4_ear 132 = .ok (.iload_n 2, 1) := dk_28 (dk_at dksX4_ear_5 15 rfl rfl)
theorem dX4_ear_133 : decode cX4_ear 133 = .ok (.invokevirtual 156, 3) := dk_182 0 156 (dk_at dksX4_ear_5 16 rfl rfl)
theorem dX4_ear_136 : decode cX4_ear 136 = .ok (.ifCond .lt 7, 3) := dk_155 0 7 (dk_at dksX4_ear_5 19 rfl rfl)
theorem dX4_ear_139 : decode cX4_ear 139 = .ok (.iconst 1, 1) := dk_4 (dk_at dksX4_ear_5 22 rfl rfl)
theorem dX4_ear_140 : decode cX4_ear 140 = .ok (.goto 4, 3) := dk_167 0 4 (dk_at dksX4_ear_6 0 rfl rfl)
theorem dX4_ear_143 : decode cX4_ear 143 = .ok (.iconst 0, 1) := dk_3 (dk_at dksX4_ear_6 3 rfl rfl)
theorem dX4_ear_144 : decode cX4_ear 144 = .ok (.iconst 4, 1) := dk_7 (dk_at dksX4_ear_6 4 rfl rfl)
theorem dX4_ear_145 : decode cX4_ear 145 = .ok (.invokevirtual 90, 3) := dk_182 0 90 (dk_at dksX4_ear_6 5 rfl rfl)
theorem dX4_ear_148 : decode cX4_ear 148 = .ok (.aload_n 0, 1) := dk_42 (dk_at dksX4_ear_6 8 rfl rfl)
theorem dX4_ear_149 : decode cX4_ear 149 = .ok (.invokevirtual 94, 3) := dk_182 0 94 (dk_at dksX4_ear_6 9 rfl rfl)
theorem dX4_ear_152 : decode cX4_ear 152 = .ok (.iinc 2 1, 3) := dk_132 2 1 (dk_at dksX4_ear_6 12 rfl rfl)
theorem dX4_ear_155 : decode cX4_ear 155 = .ok (.goto (-57), 3) := dk_167 255 199 (dk_at dksX4_ear_6 15 rfl rfl)
theorem dX4_ear_158 : decode cX4_ear 158 = .ok (.aload_n 0, 1) := dk_42 (dk_at dksX4_ear_6 18 rfl rfl)
theorem dX4_ear_159 : decode cX4_ear 159 = .ok (.getfield 22, 3) := dk_180 0 22 (dk_at dksX4_ear_6 19 rfl rfl)
theorem dX4_ear_162 : decode cX4_ear 162 = .ok (.iload_n 1, 1) := dk_27 (dk_at dksX4_ear_6 22 rfl rfl)
theorem dX4_ear_163 : decode cX4_ear 163 = .ok (.iconst 1, 1) := dk_4 (dk_at dksX4_ear_6 23 rfl rfl)
theorem dX4_ear_164 : decode cX4_ear 164 = .ok (.bastore, 1) := dk_84 (dk_at dksX4_ear_7 0 rfl rfl)
theorem dX4_ear_165 : decode cX4_ear 165 = .ok (.return_, 1) := dk_177 (dk_at dksX4_ear_7 1 rfl rfl)
abbrev cX4_slip : ByteArray := prog_6_method_17_code
def yX4_slip : MethodName := ⟨RX4, "slip", "()V"⟩
def dkwX4_slip_5 : List UInt8 := [182, 0, 184, 87, 42, 182, 0, 94, 177]
abbrev dktX4_slip_5 : List UInt8 := dkwX4_slip_5 ++ []
def dkwX4_slip_4 : List UInt8 := [4, 100, 182, 0, 171, 192, 0, 175, 182, 0, 177, 4, 96, 17, 3, 231, 182, 0, 101, 184, 0, 180]
abbrev dktX4_slip_4 : List UInt8 := dkwX4_slip_4 ++ dktX4_slip_5
def dkwX4_slip_3 : List UInt8 := [153, 0, 7, 4, 167, 0, 33, 42, 180, 0, 18, 180, 0, 159, 42, 180, 0, 18, 180, 0, 159, 182, 0, 163]
abbrev dktX4_slip_3 : List UInt8 := dkwX4_slip_3 ++ dktX4_slip_4
def dkwX4_slip_2 : List UInt8 := [42, 182, 0, 94, 42, 180, 0, 18, 180, 0, 159, 42, 42, 180, 0, 18, 180, 0, 159, 182, 0, 167]
abbrev dktX4_slip_2 : List UInt8 := dkwX4_slip_2 ++ dktX4_slip_3
def dkwX4_slip_1 : List UInt8 := [182, 0, 90, 42, 42, 180, 0, 18, 180, 0, 108, 158, 0, 7, 4, 167, 0, 4, 3, 16, 6, 182, 0, 90]
abbrev dktX4_slip_1 : List UInt8 := dkwX4_slip_1 ++ dktX4_slip_2
def dkwX4_slip_0 : List UInt8 := [42, 42, 180, 0, 18, 180, 0, 159, 182, 0, 163, 16, 12, 162, 0, 7, 4, 167, 0, 4, 3, 8]
abbrev dktX4_slip_0 : List UInt8 := dkwX4_slip_0 ++ dktX4_slip_1
theorem dksX4_slip_0 : cX4_slip.data.toList.drop 0 = dktX4_slip_0 := by decide +kernel
theorem dksX4_slip_1 : cX4_slip.data.toList.drop 22 = dktX4_slip_1 := dk_seg dksX4_slip_0 22 rfl rfl
theorem dksX4_slip_2 : cX4_slip.data.toList.drop 46 = dktX4_slip_2 := dk_seg dksX4_slip_1 24 rfl rfl
theorem dksX4_slip_3 : cX4_slip.data.toList.drop 68 = dktX4_slip_3 := dk_seg dksX4_slip_2 22 rfl rfl
theorem dksX4_slip_4 : cX4_slip.data.toList.drop 92 = dktX4_slip_4 := dk_seg dksX4_slip_3 24 rfl rfl
theorem dksX4_slip_5 : cX4_slip.data.toList.drop 114 = dktX4_slip_5 := dk_seg dksX4_slip_4 22 rfl rfl
theorem dX4_slip_0 : decode cX4_slip 0 = .ok (.aload_n 0, 1) := dk_42 (dk_at dksX4_slip_0 0 rfl rfl)
theorem dX4_slip_1 : decode cX4_slip 1 = .ok (.aload_n 0, 1) := dk_42 (dk_at dksX4_slip_0 1 rfl rfl)
theorem dX4_slip_2 : decode cX4_slip 2 = .ok (.getfield 18, 3) := dk_180 0 18 (dk_at dksX4_slip_0 2 rfl rfl)
theorem dX4_slip_5 : decode cX4_slip 5 = .ok (.getfield 159, 3) := dk_180 0 159 (dk_at dksX4_slip_0 5 rfl rfl)
theorem dX4_slip_8 : decode cX4_slip 8 = .ok (.invokevirtual 163, 3) := dk_182 0 163 (dk_at dksX4_slip_0 8 rfl rfl)
theorem dX4_slip_11 : decode cX4_slip 11 = .ok (.bipush 12, 2) := dk_16 12 (dk_at dksX4_slip_0 11 rfl rfl)
theorem dX4_slip_13 : decode cX4_slip 13 = .ok (.if_icmp .ge 7, 3) := dk_162 0 7 (dk_at dksX4_slip_0 13 rfl rfl)
theorem dX4_slip_16 : decode cX4_slip 16 = .ok (.iconst 1, 1) := dk_4 (dk_at dksX4_slip_0 16 rfl rfl)
theorem dX4_slip_17 : decode cX4_slip 17 = .ok (.goto 4, 3) := dk_167 0 4 (dk_at dksX4_slip_0 17 rfl rfl)
theorem dX4_slip_20 : decode cX4_slip 20 = .ok (.iconst 0, 1) := dk_3 (dk_at dksX4_slip_0 20 rfl rfl)
theorem dX4_slip_21 : decode cX4_slip 21 = .ok (.iconst 5, 1) := dk_8 (dk_at dksX4_slip_0 21 rfl rfl)
theorem dX4_slip_22 : decode cX4_slip 22 = .ok (.invokevirtual 90, 3) := dk_182 0 90 (dk_at dksX4_slip_1 0 rfl rfl)
theorem dX4_slip_25 : decode cX4_slip 25 = .ok (.aload_n 0, 1) := dk_42 (dk_at dksX4_slip_1 3 rfl rfl)
theorem dX4_slip_26 : decode cX4_slip 26 = .ok (.aload_n 0, 1) := dk_42 (dk_at dksX4_slip_1 4 rfl rfl)
theorem dX4_slip_27 : decode cX4_slip 27 = .ok (.getfield 18, 3) := dk_180 0 18 (dk_at dksX4_slip_1 5 rfl rfl)
theorem dX4_slip_30 : decode cX4_slip 30 = .ok (.getfield 108, 3) := dk_180 0 108 (dk_at dksX4_slip_1 8 rfl rfl)
theorem dX4_slip_33 : decode cX4_slip 33 = .ok (.ifCond .le 7, 3) := dk_158 0 7 (dk_at dksX4_slip_1 11 rfl rfl)
theorem dX4_slip_36 : decode cX4_slip 36 = .ok (.iconst 1, 1) := dk_4 (dk_at dksX4_slip_1 14 rfl rfl)
theorem dX4_slip_37 : decode cX4_slip 37 = .ok (.goto 4, 3) := dk_167 0 4 (dk_at dksX4_slip_1 15 rfl rfl)
theorem dX4_slip_40 : decode cX4_slip 40 = .ok (.iconst 0, 1) := dk_3 (dk_at dksX4_slip_1 18 rfl rfl)
theorem dX4_slip_41 : decode cX4_slip 41 = .ok (.bipush 6, 2) := dk_16 6 (dk_at dksX4_slip_1 19 rfl rfl)
theorem dX4_slip_43 : decode cX4_slip 43 = .ok (.invokevirtual 90, 3) := dk_182 0 90 (dk_at dksX4_slip_1 21 rfl rfl)
theorem dX4_slip_46 : decode cX4_slip 46 = .ok (.aload_n 0, 1) := dk_42 (dk_at dksX4_slip_2 0 rfl rfl)
theorem dX4_slip_47 : decode cX4_slip 47 = .ok (.invokevirtual 94, 3) := dk_182 0 94 (dk_at dksX4_slip_2 1 rfl rfl)
theorem dX4_slip_50 : decode cX4_slip 50 = .ok (.aload_n 0, 1) := dk_42 (dk_at dksX4_slip_2 4 rfl rfl)
theorem dX4_slip_51 : decode cX4_slip 51 = .ok (.getfield 18, 3) := dk_180 0 18 (dk_at dksX4_slip_2 5 rfl rfl)
theorem dX4_slip_54 : decode cX4_slip 54 = .ok (.getfield 159, 3) := dk_180 0 159 (dk_at dksX4_slip_2 8 rfl rfl)
theorem dX4_slip_57 : decode cX4_slip 57 = .ok (.aload_n 0, 1) := dk_42 (dk_at dksX4_slip_2 11 rfl rfl)
theorem dX4_slip_58 : decode cX4_slip 58 = .ok (.aload_n 0, 1) := dk_42 (dk_at dksX4_slip_2 12 rfl rfl)
theorem dX4_slip_59 : decode cX4_slip 59 = .ok (.getfield 18, 3) := dk_180 0 18 (dk_at dksX4_slip_2 13 rfl rfl)
theorem dX4_slip_62 : decode cX4_slip 62 = .ok (.getfield 159, 3) := dk_180 0 159 (dk_at dksX4_slip_2 16 rfl rfl)
theorem dX4_slip_65 : decode cX4_slip 65 = .ok (.invokevirtual 167, 3) := dk_182 0 167 (dk_at dksX4_slip_2 19 rfl rfl)
theorem dX4_slip_68 : decode cX4_slip 68 = .ok (.ifCond .eq 7, 3) := dk_153 0 7 (dk_at dksX4_slip_3 0 rfl rfl)
theorem dX4_slip_71 : decode cX4_slip 71 = .ok (.iconst 1, 1) := dk_4 (dk_at dksX4_slip_3 3 rfl rfl)
theorem dX4_slip_72 : decode cX4_slip 72 = .ok (.goto 33, 3) := dk_167 0 33 (dk_at dksX4_slip_3 4 rfl rfl)
theorem dX4_slip_75 : decode cX4_slip 75 = .ok (.aload_n 0, 1) := dk_42 (dk_at dksX4_slip_3 7 rfl rfl)
theorem dX4_slip_76 : decode cX4_slip 76 = .ok (.getfield 18, 3) := dk_180 0 18 (dk_at dksX4_slip_3 8 rfl rfl)
theorem dX4_slip_79 : decode cX4_slip 79 = .ok (.getfield 159, 3) := dk_180 0 159 (dk_at dksX4_slip_3 11 rfl rfl)
theorem dX4_slip_82 : decode cX4_slip 82 = .ok (.aload_n 0, 1) := dk_42 (dk_at dksX4_slip_3 14 rfl rfl)
theorem dX4_slip_83 : decode cX4_slip 83 = .ok (.getfield 18, 3) := dk_180 0 18 (dk_at dksX4_slip_3 15 rfl rfl)
theorem dX4_slip_86 : decode cX4_slip 86 = .ok (.getfield 159, 3) := dk_180 0 159 (dk_at dksX4_slip_3 18 rfl rfl)
theorem dX4_slip_89 : decode cX4_slip 89 = .ok (.invokevirtual 163, 3) := dk_182 0 163 (dk_at dksX4_slip_3 21 rfl rfl)
theorem dX4_slip_92 : decode cX4_slip 92 = .ok (.iconst 1, 1) := dk_4 (dk_at dksX4_slip_4 0 rfl rfl)
theorem dX4_slip_93 : decode cX4_slip 93 = .ok (.isub, 1) := dk_100 (dk_at dksX4_slip_4 1 rfl rfl)
theorem dX4_slip_94 : decode cX4_slip 94 = .ok (.invokevirtual 171, 3) := dk_182 0 171 (dk_at dksX4_slip_4 2 rfl rfl)
theorem dX4_slip_97 : decode cX4_slip 97 = .ok (.checkcast 175, 3) := dk_192 0 175 (dk_at dksX4_slip_4 5 rfl rfl)
theorem dX4_slip_100 : decode cX4_slip 100 = .ok (.invokevirtual 177, 3) := dk_182 0 177 (dk_at dksX4_slip_4 8 rfl rfl)
theorem dX4_slip_103 : decode cX4_slip 103 = .ok (.iconst 1, 1) := dk_4 (dk_at dksX4_slip_4 11 rfl rfl)
theorem dX4_slip_104 : decode cX4_slip 104 = .ok (.iadd, 1) := dk_96 (dk_at dksX4_slip_4 12 rfl rfl)
theorem dX4_slip_105 : decode cX4_slip 105 = .ok (.sipush 999, 3) := dk_17 3 231 (dk_at dksX4_slip_4 13 rfl rfl)
theorem dX4_slip_108 : decode cX4_slip 108 = .ok (.invokevirtual 101, 3) := dk_182 0 101 (dk_at dksX4_slip_4 16 rfl rfl)
theorem dX4_slip_111 : decode cX4_slip 111 = .ok (.invokestatic 180, 3) := dk_184 0 180 (dk_at dksX4_slip_4 19 rfl rfl)
theorem dX4_slip_114 : decode cX4_slip 114 = .ok (.invokevirtual 184, 3) := dk_182 0 184 (dk_at dksX4_slip_5 0 rfl rfl)
theorem dX4_slip_117 : decode cX4_slip 117 = .ok (.pop, 1) := dk_87 (dk_at dksX4_slip_5 3 rfl rfl)
theorem dX4_slip_118 : decode cX4_slip 118 = .ok (.aload_n 0, 1) := dk_42 (dk_at dksX4_slip_5 4 rfl rfl)
theorem dX4_slip_119 : decode cX4_slip 119 = .ok (.invokevirtual 94, 3) := dk_182 0 94 (dk_at dksX4_slip_5 5 rfl rfl)
theorem dX4_slip_122 : decode cX4_slip 122 = .ok (.return_, 1) := dk_177 (dk_at dksX4_slip_5 8 rfl rfl)
theorem q112 : (Jvm.Cond.initialized "MaskedEars$Reader") ∈ lw_all := lw_g (lw_at lw_m1 7 rfl) rfl
theorem q193 : (Jvm.Cond.fieldLinkNest "MaskedEars$Reader" (30 : Nat) "MaskedEars" "tape" "[B" "MaskedEars") ∈ lw_tbl := lw_at lw_m1 88 rfl
theorem q245 : (Jvm.Cond.instantiable "MaskedEars$Reader" (9 : Nat)) ∈ lw_all := lw_g (lw_at lw_m1 140 rfl) rfl
theorem q247 : (Jvm.Cond.instanceMethod ({ cls := "MaskedEars$Reader", name := "<init>", desc := "(LMaskedEars;I)V" } : Jvm.MethodName)) ∈ lw_all := lw_g (lw_at lw_m1 142 rfl) rfl
theorem q248 : (Jvm.Cond.code ({ cls := "MaskedEars$Reader", name := "<init>", desc := "(LMaskedEars;I)V" } : Jvm.MethodName) prog_6_method_1_code (3 : Nat) (Option.none : Option Jvm.ClassFile.FieldType)) ∈ lw_all := lw_g (lw_at lw_m1 143 rfl) rfl
theorem q249 : (Jvm.Cond.methodLink "MaskedEars$Reader" (9 : Nat) ({ cls := "java/lang/Object", name := "<init>", desc := "()V" } : Jvm.MethodName)) ∈ lw_all := lw_g (lw_at lw_m1 144 rfl) rfl
theorem q250 : (Jvm.Cond.classLink "MaskedEars$Reader" (15 : Nat) "MaskedEars$Told") ∈ lw_all := lw_g (lw_at lw_m1 145 rfl) rfl
theorem q252 : (Jvm.Cond.methodLinkNest "MaskedEars$Reader" (17 : Nat) ({ cls := "MaskedEars$Told", name := "<init>", desc := "()V" } : Jvm.MethodName) "MaskedEars") ∈ lw_tbl := lw_at lw_m1 147 rfl
theorem q260 : (Jvm.Cond.fieldLinkNest "MaskedEars$Reader" (108 : Nat) "MaskedEars$Told" "tones" "I" "MaskedEars") ∈ lw_tbl := lw_at lw_m1 155 rfl
theorem q264 : (Jvm.Cond.fieldLinkNest "MaskedEars$Reader" (134 : Nat) "MaskedEars$Told" "across" "I" "MaskedEars") ∈ lw_tbl := lw_at lw_m1 159 rfl
theorem q267 : (Jvm.Cond.fieldLinkNest "MaskedEars$Reader" (138 : Nat) "MaskedEars$Told" "gap" "I" "MaskedEars") ∈ lw_tbl := lw_at lw_m1 162 rfl
theorem q270 : (Jvm.Cond.fieldLinkNest "MaskedEars$Reader" (142 : Nat) "MaskedEars$Told" "rise" "I" "MaskedEars") ∈ lw_tbl := lw_at lw_m1 165 rfl
theorem q273 : (Jvm.Cond.fieldLinkNest "MaskedEars$Reader" (146 : Nat) "MaskedEars$Told" "flats" "I" "MaskedEars") ∈ lw_tbl := lw_at lw_m1 168 rfl
theorem q277 : (Jvm.Cond.fieldLinkNest "MaskedEars$Reader" (159 : Nat) "MaskedEars$Told" "slips" "Ljava/util/ArrayList;" "MaskedEars") ∈ lw_tbl := lw_at lw_m1 172 rfl
theorem q293 : (Jvm.Cond.fieldLink "MaskedEars$Reader" (26 : Nat) "MaskedEars$Reader" "size" "I") ∈ lw_all := lw_g (lw_at lw_m1 188 rfl) rfl
theorem q294 : (Jvm.Cond.fieldLink "MaskedEars$Reader" (18 : Nat) "MaskedEars$Reader" "t" "LMaskedEars$Told;") ∈ lw_all := lw_g (lw_at lw_m1 189 rfl) rfl
theorem q295 : (Jvm.Cond.fieldLink "MaskedEars$Reader" (22 : Nat) "MaskedEars$Reader" "hasEar" "[Z") ∈ lw_all := lw_g (lw_at lw_m1 190 rfl) rfl
theorem q296 : (Jvm.Cond.fieldLink "MaskedEars$Reader" (42 : Nat) "MaskedEars$Reader" "to" "I") ∈ lw_all := lw_g (lw_at lw_m1 191 rfl) rfl
theorem q297 : (Jvm.Cond.fieldLink "MaskedEars$Reader" (45 : Nat) "MaskedEars$Reader" "from" "I") ∈ lw_all := lw_g (lw_at lw_m1 192 rfl) rfl
theorem q298 : (Jvm.Cond.fieldLink "MaskedEars$Reader" (48 : Nat) "MaskedEars$Reader" "sort" "I") ∈ lw_all := lw_g (lw_at lw_m1 193 rfl) rfl
theorem q299 : (Jvm.Cond.fieldLink "MaskedEars$Reader" (68 : Nat) "MaskedEars$Reader" "value" "I") ∈ lw_all := lw_g (lw_at lw_m1 194 rfl) rfl
theorem q300 : (Jvm.Cond.fieldLink "MaskedEars$Reader" (64 : Nat) "MaskedEars$Reader" "word" "J") ∈ lw_all := lw_g (lw_at lw_m1 195 rfl) rfl
theorem q301 : (Jvm.Cond.fieldLink "MaskedEars$Reader" (3 : Nat) "MaskedEars$Reader" "this$0" "LMaskedEars;") ∈ lw_all := lw_g (lw_at lw_m1 196 rfl) rfl
theorem q302 : (Jvm.Cond.laysFinal "MaskedEars$Reader" "MaskedEars$Reader" "size" "I") ∈ lw_all := lw_g (lw_at lw_m1 197 rfl) rfl
theorem q303 : (Jvm.Cond.soleField "MaskedEars$Reader" "size") ∈ lw_all := lw_g (lw_at lw_m1 198 rfl) rfl
theorem q304 : (Jvm.Cond.laysFinal "MaskedEars$Reader" "MaskedEars$Reader" "t" "LMaskedEars$Told;") ∈ lw_all := lw_g (lw_at lw_m1 199 rfl) rfl
theorem q305 : (Jvm.Cond.soleField "MaskedEars$Reader" "t") ∈ lw_all := lw_g (lw_at lw_m1 200 rfl) rfl
theorem q306 : (Jvm.Cond.laysFinal "MaskedEars$Reader" "MaskedEars$Reader" "hasEar" "[Z") ∈ lw_all := lw_g (lw_at lw_m1 201 rfl) rfl
theorem q307 : (Jvm.Cond.soleField "MaskedEars$Reader" "hasEar") ∈ lw_all := lw_g (lw_at lw_m1 202 rfl) rfl
theorem q308 : (Jvm.Cond.lays "MaskedEars$Reader" "MaskedEars$Reader" "to" "I") ∈ lw_all := lw_g (lw_at lw_m1 203 rfl) rfl
theorem q309 : (Jvm.Cond.soleField "MaskedEars$Reader" "to") ∈ lw_all := lw_g (lw_at lw_m1 204 rfl) rfl
theorem q310 : (Jvm.Cond.lays "MaskedEars$Reader" "MaskedEars$Reader" "from" "I") ∈ lw_all := lw_g (lw_at lw_m1 205 rfl) rfl
theorem q311 : (Jvm.Cond.soleField "MaskedEars$Reader" "from") ∈ lw_all := lw_g (lw_at lw_m1 206 rfl) rfl
theorem q312 : (Jvm.Cond.lays "MaskedEars$Reader" "MaskedEars$Reader" "sort" "I") ∈ lw_all := lw_g (lw_at lw_m1 207 rfl) rfl
theorem q313 : (Jvm.Cond.soleField "MaskedEars$Reader" "sort") ∈ lw_all := lw_g (lw_at lw_m1 208 rfl) rfl
theorem q314 : (Jvm.Cond.lays "MaskedEars$Reader" "MaskedEars$Reader" "value" "I") ∈ lw_all := lw_g (lw_at lw_m1 209 rfl) rfl
theorem q315 : (Jvm.Cond.soleField "MaskedEars$Reader" "value") ∈ lw_all := lw_g (lw_at lw_m1 210 rfl) rfl
theorem q316 : (Jvm.Cond.lays "MaskedEars$Reader" "MaskedEars$Reader" "word" "J") ∈ lw_all := lw_g (lw_at lw_m1 211 rfl) rfl
theorem q317 : (Jvm.Cond.soleField "MaskedEars$Reader" "word") ∈ lw_all := lw_g (lw_at lw_m1 212 rfl) rfl
theorem q318 : (Jvm.Cond.laysFinal "MaskedEars$Reader" "MaskedEars$Reader" "this$0" "LMaskedEars;") ∈ lw_all := lw_g (lw_at lw_m1 213 rfl) rfl
theorem q319 : (Jvm.Cond.soleField "MaskedEars$Reader" "this$0") ∈ lw_all := lw_g (lw_at lw_m1 214 rfl) rfl
theorem q320 : (Jvm.Cond.superclass "MaskedEars$Reader" "java/lang/Object") ∈ lw_all := lw_g (lw_at lw_m1 215 rfl) rfl
theorem q323 : (Jvm.Cond.instanceMethod ({ cls := "MaskedEars$Reader", name := "read", desc := "()LMaskedEars$Told;" } : Jvm.MethodName)) ∈ lw_all := lw_g (lw_at lw_m1 218 rfl) rfl
theorem q324 : (Jvm.Cond.selects "MaskedEars$Reader" ({ cls := "MaskedEars$Reader", name := "read", desc := "()LMaskedEars$Told;" } : Jvm.MethodName) ({ cls := "MaskedEars$Reader", name := "read", desc := "()LMaskedEars$Told;" } : Jvm.MethodName)) ∈ lw_all := lw_g (lw_at lw_m1 219 rfl) rfl
theorem q325 : (Jvm.Cond.code ({ cls := "MaskedEars$Reader", name := "read", desc := "()LMaskedEars$Told;" } : Jvm.MethodName) prog_6_method_13_code (1 : Nat) (Option.some (Jvm.ClassFile.FieldType.object "MaskedEars$Told"))) ∈ lw_all := lw_g (lw_at lw_m1 220 rfl) rfl
theorem q326 : (Jvm.Cond.methodLink "MaskedEars$Reader" (94 : Nat) ({ cls := "MaskedEars$Reader", name := "go", desc := "()V" } : Jvm.MethodName)) ∈ lw_all := lw_g (lw_at lw_m1 221 rfl) rfl
theorem q327 : (Jvm.Cond.privateMethod ({ cls := "MaskedEars$Reader", name := "go", desc := "()V" } : Jvm.MethodName)) ∈ lw_tbl := lw_at lw_m1 222 rfl
theorem q328 : (Jvm.Cond.instanceMethod ({ cls := "MaskedEars$Reader", name := "go", desc := "()V" } : Jvm.MethodName)) ∈ lw_all := lw_g (lw_at lw_m1 223 rfl) rfl
theorem q329 : (Jvm.Cond.code ({ cls := "MaskedEars$Reader", name := "go", desc := "()V" } : Jvm.MethodName) prog_6_method_5_code (1 : Nat) (Option.none : Option Jvm.ClassFile.FieldType)) ∈ lw_all := lw_g (lw_at lw_m1 224 rfl) rfl
theorem q330 : (Jvm.Cond.methodLink "MaskedEars$Reader" (34 : Nat) ({ cls := "MaskedEars$Reader", name := "byteAt", desc := "(I)I" } : Jvm.MethodName)) ∈ lw_all := lw_g (lw_at lw_m1 225 rfl) rfl
theorem q331 : (Jvm.Cond.privateMethod ({ cls := "MaskedEars$Reader", name := "byteAt", desc := "(I)I" } : Jvm.MethodName)) ∈ lw_tbl := lw_at lw_m1 226 rfl
theorem q332 : (Jvm.Cond.instanceMethod ({ cls := "MaskedEars$Reader", name := "byteAt", desc := "(I)I" } : Jvm.MethodName)) ∈ lw_all := lw_g (lw_at lw_m1 227 rfl) rfl
theorem q333 : (Jvm.Cond.code ({ cls := "MaskedEars$Reader", name := "byteAt", desc := "(I)I" } : Jvm.MethodName) prog_6_method_2_code (2 : Nat) (Option.some Jvm.ClassFile.FieldType.int)) ∈ lw_all := lw_g (lw_at lw_m1 228 rfl) rfl
theorem q334 : (Jvm.Cond.methodLink "MaskedEars$Reader" (51 : Nat) ({ cls := "MaskedEars$Reader", name := "isLetter", desc := "(I)Z" } : Jvm.MethodName)) ∈ lw_all := lw_g (lw_at lw_m1 229 rfl) rfl
theorem q335 : (Jvm.Cond.privateMethod ({ cls := "MaskedEars$Reader", name := "isLetter", desc := "(I)Z" } : Jvm.MethodName)) ∈ lw_tbl := lw_at lw_m1 230 rfl
theorem q336 : (Jvm.Cond.instanceMethod ({ cls := "MaskedEars$Reader", name := "isLetter", desc := "(I)Z" } : Jvm.MethodName)) ∈ lw_all := lw_g (lw_at lw_m1 231 rfl) rfl
theorem q337 : (Jvm.Cond.code ({ cls := "MaskedEars$Reader", name := "isLetter", desc := "(I)Z" } : Jvm.MethodName) prog_6_method_3_code (2 : Nat) (Option.some Jvm.ClassFile.FieldType.boolean)) ∈ lw_all := lw_g (lw_at lw_m1 232 rfl) rfl
theorem q338 : (Jvm.Cond.methodLinkNest "MaskedEars$Reader" (38 : Nat) ({ cls := "MaskedEars", name := "isIn", desc := "(III)Z" } : Jvm.MethodName) "MaskedEars") ∈ lw_tbl := lw_at lw_m1 233 rfl
theorem q339 : (Jvm.Cond.methodLink "MaskedEars$Reader" (55 : Nat) ({ cls := "MaskedEars$Reader", name := "goWord", desc := "()V" } : Jvm.MethodName)) ∈ lw_all := lw_g (lw_at lw_m1 234 rfl) rfl
theorem q340 : (Jvm.Cond.privateMethod ({ cls := "MaskedEars$Reader", name := "goWord", desc := "()V" } : Jvm.MethodName)) ∈ lw_tbl := lw_at lw_m1 235 rfl
theorem q341 : (Jvm.Cond.instanceMethod ({ cls := "MaskedEars$Reader", name := "goWord", desc := "()V" } : Jvm.MethodName)) ∈ lw_all := lw_g (lw_at lw_m1 236 rfl) rfl
theorem q342 : (Jvm.Cond.code ({ cls := "MaskedEars$Reader", name := "goWord", desc := "()V" } : Jvm.MethodName) prog_6_method_6_code (1 : Nat) (Option.none : Option Jvm.ClassFile.FieldType)) ∈ lw_all := lw_g (lw_at lw_m1 237 rfl) rfl
theorem q343 : (Jvm.Cond.methodLink "MaskedEars$Reader" (58 : Nat) ({ cls := "MaskedEars$Reader", name := "isDigit", desc := "(I)Z" } : Jvm.MethodName)) ∈ lw_all := lw_g (lw_at lw_m1 238 rfl) rfl
theorem q344 : (Jvm.Cond.privateMethod ({ cls := "MaskedEars$Reader", name := "isDigit", desc := "(I)Z" } : Jvm.MethodName)) ∈ lw_tbl := lw_at lw_m1 239 rfl
theorem q345 : (Jvm.Cond.instanceMethod ({ cls := "MaskedEars$Reader", name := "isDigit", desc := "(I)Z" } : Jvm.MethodName)) ∈ lw_all := lw_g (lw_at lw_m2 0 rfl) rfl
theorem q346 : (Jvm.Cond.code ({ cls := "MaskedEars$Reader", name := "isDigit", desc := "(I)Z" } : Jvm.MethodName) prog_6_method_4_code (2 : Nat) (Option.some Jvm.ClassFile.FieldType.boolean)) ∈ lw_all := lw_g (lw_at lw_m2 1 rfl) rfl
theorem q347 : (Jvm.Cond.methodLink "MaskedEars$Reader" (61 : Nat) ({ cls := "MaskedEars$Reader", name := "goWhole", desc := "()V" } : Jvm.MethodName)) ∈ lw_all := lw_g (lw_at lw_m2 2 rfl) rfl
theorem q348 : (Jvm.Cond.privateMethod ({ cls := "MaskedEars$Reader", name := "goWhole", desc := "()V" } : Jvm.MethodName)) ∈ lw_tbl := lw_at lw_m2 3 rfl
theorem q349 : (Jvm.Cond.instanceMethod ({ cls := "MaskedEars$Reader", name := "goWhole", desc := "()V" } : Jvm.MethodName)) ∈ lw_all := lw_g (lw_at lw_m2 4 rfl) rfl
theorem q350 : (Jvm.Cond.code ({ cls := "MaskedEars$Reader", name := "goWhole", desc := "()V" } : Jvm.MethodName) prog_6_method_7_code (1 : Nat) (Option.none : Option Jvm.ClassFile.FieldType)) ∈ lw_all := lw_g (lw_at lw_m2 5 rfl) rfl
theorem q351 : (Jvm.Cond.methodLink "MaskedEars$Reader" (105 : Nat) ({ cls := "MaskedEars$Reader", name := "line", desc := "()V" } : Jvm.MethodName)) ∈ lw_all := lw_g (lw_at lw_m2 6 rfl) rfl
theorem q352 : (Jvm.Cond.privateMethod ({ cls := "MaskedEars$Reader", name := "line", desc := "()V" } : Jvm.MethodName)) ∈ lw_tbl := lw_at lw_m2 7 rfl
theorem q353 : (Jvm.Cond.instanceMethod ({ cls := "MaskedEars$Reader", name := "line", desc := "()V" } : Jvm.MethodName)) ∈ lw_all := lw_g (lw_at lw_m2 8 rfl) rfl
theorem q354 : (Jvm.Cond.code ({ cls := "MaskedEars$Reader", name := "line", desc := "()V" } : Jvm.MethodName) prog_6_method_14_code (1 : Nat) (Option.none : Option Jvm.ClassFile.FieldType)) ∈ lw_all := lw_g (lw_at lw_m2 9 rfl) rfl
theorem q355 : (Jvm.Cond.stringRef "MaskedEars$Reader" (111 : Nat) "tester") ∈ lw_tbl := lw_at lw_m2 10 rfl
theorem q356 : (Jvm.Cond.methodLink "MaskedEars$Reader" (86 : Nat) ({ cls := "MaskedEars$Reader", name := "is", desc := "(Ljava/lang/String;)Z" } : Jvm.MethodName)) ∈ lw_all := lw_g (lw_at lw_m2 11 rfl) rfl
theorem q357 : (Jvm.Cond.privateMethod ({ cls := "MaskedEars$Reader", name := "is", desc := "(Ljava/lang/String;)Z" } : Jvm.MethodName)) ∈ lw_tbl := lw_at lw_m2 12 rfl
theorem q358 : (Jvm.Cond.instanceMethod ({ cls := "MaskedEars$Reader", name := "is", desc := "(Ljava/lang/String;)Z" } : Jvm.MethodName)) ∈ lw_all := lw_g (lw_at lw_m2 13 rfl) rfl
theorem q359 : (Jvm.Cond.code ({ cls := "MaskedEars$Reader", name := "is", desc := "(Ljava/lang/String;)Z" } : Jvm.MethodName) prog_6_method_9_code (5 : Nat) (Option.some Jvm.ClassFile.FieldType.boolean)) ∈ lw_all := lw_g (lw_at lw_m2 14 rfl) rfl
theorem q360 : (Jvm.Cond.methodLink "MaskedEars$Reader" (76 : Nat) ({ cls := "java/lang/String", name := "length", desc := "()I" } : Jvm.MethodName)) ∈ lw_all := lw_g (lw_at lw_m2 15 rfl) rfl
theorem q370 : (Jvm.Cond.methodLink "MaskedEars$Reader" (82 : Nat) ({ cls := "java/lang/String", name := "charAt", desc := "(I)C" } : Jvm.MethodName)) ∈ lw_all := lw_g (lw_at lw_m2 25 rfl) rfl
theorem q408 : (Jvm.Cond.methodLink "MaskedEars$Reader" (113 : Nat) ({ cls := "MaskedEars$Reader", name := "tester", desc := "()V" } : Jvm.MethodName)) ∈ lw_all := lw_g (lw_at lw_m2 63 rfl) rfl
theorem q409 : (Jvm.Cond.privateMethod ({ cls := "MaskedEars$Reader", name := "tester", desc := "()V" } : Jvm.MethodName)) ∈ lw_tbl := lw_at lw_m2 64 rfl
theorem q410 : (Jvm.Cond.instanceMethod ({ cls := "MaskedEars$Reader", name := "tester", desc := "()V" } : Jvm.MethodName)) ∈ lw_all := lw_g (lw_at lw_m2 65 rfl) rfl
theorem q411 : (Jvm.Cond.code ({ cls := "MaskedEars$Reader", name := "tester", desc := "()V" } : Jvm.MethodName) prog_6_method_15_code (2 : Nat) (Option.none : Option Jvm.ClassFile.FieldType)) ∈ lw_all := lw_g (lw_at lw_m2 66 rfl) rfl
theorem q412 : (Jvm.Cond.methodLink "MaskedEars$Reader" (90 : Nat) ({ cls := "MaskedEars$Reader", name := "need", desc := "(ZI)V" } : Jvm.MethodName)) ∈ lw_all := lw_g (lw_at lw_m2 67 rfl) rfl
theorem q413 : (Jvm.Cond.privateMethod ({ cls := "MaskedEars$Reader", name := "need", desc := "(ZI)V" } : Jvm.MethodName)) ∈ lw_tbl := lw_at lw_m2 68 rfl
theorem q414 : (Jvm.Cond.instanceMethod ({ cls := "MaskedEars$Reader", name := "need", desc := "(ZI)V" } : Jvm.MethodName)) ∈ lw_all := lw_g (lw_at lw_m2 69 rfl) rfl
theorem q415 : (Jvm.Cond.code ({ cls := "MaskedEars$Reader", name := "need", desc := "(ZI)V" } : Jvm.MethodName) prog_6_method_8_code (3 : Nat) (Option.none : Option Jvm.ClassFile.FieldType)) ∈ lw_all := lw_g (lw_at lw_m2 70 rfl) rfl
theorem q416 : (Jvm.Cond.classLink "MaskedEars$Reader" (71 : Nat) "MaskedEars$Fault") ∈ lw_all := lw_g (lw_at lw_m2 71 rfl) rfl
theorem q457 : (Jvm.Cond.methodLink "MaskedEars$Reader" (73 : Nat) ({ cls := "MaskedEars$Fault", name := "<init>", desc := "(II)V" } : Jvm.MethodName)) ∈ lw_all := lw_g (lw_at lw_m2 112 rfl) rfl
theorem q487 : (Jvm.Cond.stringRef "MaskedEars$Reader" (127 : Nat) "tones") ∈ lw_tbl := lw_at lw_m2 142 rfl
theorem q488 : (Jvm.Cond.methodLink "MaskedEars$Reader" (128 : Nat) ({ cls := "MaskedEars$Reader", name := "part", desc := "(Ljava/lang/String;II)I" } : Jvm.MethodName)) ∈ lw_all := lw_g (lw_at lw_m2 143 rfl) rfl
theorem q489 : (Jvm.Cond.privateMethod ({ cls := "MaskedEars$Reader", name := "part", desc := "(Ljava/lang/String;II)I" } : Jvm.MethodName)) ∈ lw_tbl := lw_at lw_m2 144 rfl
theorem q490 : (Jvm.Cond.instanceMethod ({ cls := "MaskedEars$Reader", name := "part", desc := "(Ljava/lang/String;II)I" } : Jvm.MethodName)) ∈ lw_all := lw_g (lw_at lw_m2 145 rfl) rfl
theorem q491 : (Jvm.Cond.code ({ cls := "MaskedEars$Reader", name := "part", desc := "(Ljava/lang/String;II)I" } : Jvm.MethodName) prog_6_method_12_code (5 : Nat) (Option.some Jvm.ClassFile.FieldType.int)) ∈ lw_all := lw_g (lw_at lw_m2 146 rfl) rfl
theorem q492 : (Jvm.Cond.methodLink "MaskedEars$Reader" (97 : Nat) ({ cls := "MaskedEars$Reader", name := "expect", desc := "(Ljava/lang/String;)V" } : Jvm.MethodName)) ∈ lw_all := lw_g (lw_at lw_m2 147 rfl) rfl
theorem q493 : (Jvm.Cond.privateMethod ({ cls := "MaskedEars$Reader", name := "expect", desc := "(Ljava/lang/String;)V" } : Jvm.MethodName)) ∈ lw_tbl := lw_at lw_m2 148 rfl
theorem q494 : (Jvm.Cond.instanceMethod ({ cls := "MaskedEars$Reader", name := "expect", desc := "(Ljava/lang/String;)V" } : Jvm.MethodName)) ∈ lw_all := lw_g (lw_at lw_m2 149 rfl) rfl
theorem q495 : (Jvm.Cond.code ({ cls := "MaskedEars$Reader", name := "expect", desc := "(Ljava/lang/String;)V" } : Jvm.MethodName) prog_6_method_10_code (2 : Nat) (Option.none : Option Jvm.ClassFile.FieldType)) ∈ lw_all := lw_g (lw_at lw_m2 150 rfl) rfl
theorem q496 : (Jvm.Cond.methodLink "MaskedEars$Reader" (101 : Nat) ({ cls := "MaskedEars$Reader", name := "at", desc := "(II)I" } : Jvm.MethodName)) ∈ lw_all := lw_g (lw_at lw_m2 151 rfl) rfl
theorem q497 : (Jvm.Cond.privateMethod ({ cls := "MaskedEars$Reader", name := "at", desc := "(II)I" } : Jvm.MethodName)) ∈ lw_tbl := lw_at lw_m2 152 rfl
theorem q498 : (Jvm.Cond.instanceMethod ({ cls := "MaskedEars$Reader", name := "at", desc := "(II)I" } : Jvm.MethodName)) ∈ lw_all := lw_g (lw_at lw_m2 153 rfl) rfl
theorem q499 : (Jvm.Cond.code ({ cls := "MaskedEars$Reader", name := "at", desc := "(II)I" } : Jvm.MethodName) prog_6_method_11_code (3 : Nat) (Option.some Jvm.ClassFile.FieldType.int)) ∈ lw_all := lw_g (lw_at lw_m2 154 rfl) rfl
theorem q500 : (Jvm.Cond.stringRef "MaskedEars$Reader" (132 : Nat) "across") ∈ lw_tbl := lw_at lw_m2 155 rfl
theorem q501 : (Jvm.Cond.stringRef "MaskedEars$Reader" (136 : Nat) "gap") ∈ lw_tbl := lw_at lw_m2 156 rfl
theorem q502 : (Jvm.Cond.stringRef "MaskedEars$Reader" (140 : Nat) "rise") ∈ lw_tbl := lw_at lw_m2 157 rfl
theorem q503 : (Jvm.Cond.stringRef "MaskedEars$Reader" (144 : Nat) "flats") ∈ lw_tbl := lw_at lw_m2 158 rfl
theorem q504 : (Jvm.Cond.stringRef "MaskedEars$Reader" (115 : Nat) "left") ∈ lw_tbl := lw_at lw_m2 159 rfl
theorem q505 : (Jvm.Cond.methodLink "MaskedEars$Reader" (117 : Nat) ({ cls := "MaskedEars$Reader", name := "ear", desc := "(I)V" } : Jvm.MethodName)) ∈ lw_all := lw_g (lw_at lw_m2 160 rfl) rfl
theorem q506 : (Jvm.Cond.privateMethod ({ cls := "MaskedEars$Reader", name := "ear", desc := "(I)V" } : Jvm.MethodName)) ∈ lw_tbl := lw_at lw_m2 161 rfl
theorem q507 : (Jvm.Cond.instanceMethod ({ cls := "MaskedEars$Reader", name := "ear", desc := "(I)V" } : Jvm.MethodName)) ∈ lw_all := lw_g (lw_at lw_m2 162 rfl) rfl
theorem q508 : (Jvm.Cond.code ({ cls := "MaskedEars$Reader", name := "ear", desc := "(I)V" } : Jvm.MethodName) prog_6_method_16_code (3 : Nat) (Option.none : Option Jvm.ClassFile.FieldType)) ∈ lw_all := lw_g (lw_at lw_m2 163 rfl) rfl
theorem q509 : (Jvm.Cond.stringRef "MaskedEars$Reader" (148 : Nat) "air") ∈ lw_tbl := lw_at lw_m2 164 rfl
theorem q510 : (Jvm.Cond.methodLink "MaskedEars$Reader" (150 : Nat) ({ cls := "MaskedEars$Told", name := "lays", desc := "(IIII)V" } : Jvm.MethodName)) ∈ lw_all := lw_g (lw_at lw_m2 165 rfl) rfl
theorem q514 : (Jvm.Cond.stringRef "MaskedEars$Reader" (154 : Nat) "bone") ∈ lw_tbl := lw_at lw_m2 169 rfl
theorem q515 : (Jvm.Cond.methodLinkNest "MaskedEars$Reader" (156 : Nat) ({ cls := "MaskedEars$Told", name := "apart", desc := "(II)I" } : Jvm.MethodName) "MaskedEars") ∈ lw_tbl := lw_at lw_m2 170 rfl
theorem q523 : (Jvm.Cond.stringRef "MaskedEars$Reader" (121 : Nat) "right") ∈ lw_tbl := lw_at lw_m2 178 rfl
theorem q524 : (Jvm.Cond.stringRef "MaskedEars$Reader" (123 : Nat) "slip") ∈ lw_tbl := lw_at lw_m2 179 rfl
theorem q525 : (Jvm.Cond.methodLink "MaskedEars$Reader" (125 : Nat) ({ cls := "MaskedEars$Reader", name := "slip", desc := "()V" } : Jvm.MethodName)) ∈ lw_all := lw_g (lw_at lw_m2 180 rfl) rfl
theorem q526 : (Jvm.Cond.privateMethod ({ cls := "MaskedEars$Reader", name := "slip", desc := "()V" } : Jvm.MethodName)) ∈ lw_tbl := lw_at lw_m2 181 rfl
theorem q527 : (Jvm.Cond.instanceMethod ({ cls := "MaskedEars$Reader", name := "slip", desc := "()V" } : Jvm.MethodName)) ∈ lw_all := lw_g (lw_at lw_m2 182 rfl) rfl
theorem q528 : (Jvm.Cond.code ({ cls := "MaskedEars$Reader", name := "slip", desc := "()V" } : Jvm.MethodName) prog_6_method_17_code (1 : Nat) (Option.none : Option Jvm.ClassFile.FieldType)) ∈ lw_all := lw_g (lw_at lw_m2 183 rfl) rfl
theorem q529 : (Jvm.Cond.methodLink "MaskedEars$Reader" (163 : Nat) ({ cls := "java/util/ArrayList", name := "size", desc := "()I" } : Jvm.MethodName)) ∈ lw_all := lw_g (lw_at lw_m2 184 rfl) rfl
theorem q533 : (Jvm.Cond.methodLink "MaskedEars$Reader" (167 : Nat) ({ cls := "java/util/ArrayList", name := "isEmpty", desc := "()Z" } : Jvm.MethodName)) ∈ lw_all := lw_g (lw_at lw_m2 188 rfl) rfl
theorem q537 : (Jvm.Cond.methodLink "MaskedEars$Reader" (171 : Nat) ({ cls := "java/util/ArrayList", name := "get", desc := "(I)Ljava/lang/Object;" } : Jvm.MethodName)) ∈ lw_all := lw_g (lw_at lw_m2 192 rfl) rfl
theorem q549 : (Jvm.Cond.classLink "MaskedEars$Reader" (175 : Nat) "java/lang/Integer") ∈ lw_all := lw_g (lw_at lw_m2 204 rfl) rfl
theorem q550 : (Jvm.Cond.methodLink "MaskedEars$Reader" (177 : Nat) ({ cls := "java/lang/Integer", name := "intValue", desc := "()I" } : Jvm.MethodName)) ∈ lw_all := lw_g (lw_at lw_m2 205 rfl) rfl
theorem q554 : (Jvm.Cond.methodLink "MaskedEars$Reader" (180 : Nat) ({ cls := "java/lang/Integer", name := "valueOf", desc := "(I)Ljava/lang/Integer;" } : Jvm.MethodName)) ∈ lw_all := lw_g (lw_at lw_m2 209 rfl) rfl
theorem q574 : (Jvm.Cond.methodLink "MaskedEars$Reader" (184 : Nat) ({ cls := "java/util/ArrayList", name := "add", desc := "(Ljava/lang/Object;)Z" } : Jvm.MethodName)) ∈ lw_all := lw_g (lw_at lw_m2 229 rfl) rfl
theorem q611 : (Jvm.Cond.selects "MaskedEars$Reader" ({ cls := "java/lang/Object", name := "getClass", desc := "()Ljava/lang/Class;" } : Jvm.MethodName) ({ cls := "java/lang/Object", name := "getClass", desc := "()Ljava/lang/Class;" } : Jvm.MethodName)) ∈ lw_all := lw_g (lw_at lw_m3 26 rfl) rfl
theorem q1208 : (Jvm.Cond.selects "MaskedEars$Reader" ({ cls := "java/lang/Object", name := "equals", desc := "(Ljava/lang/Object;)Z" } : Jvm.MethodName) ({ cls := "java/lang/Object", name := "equals", desc := "(Ljava/lang/Object;)Z" } : Jvm.MethodName)) ∈ lw_all := lw_g (lw_at lw_m5 143 rfl) rfl
theorem q2002 : (Jvm.Cond.castable "MaskedEars$Reader" "java/lang/Object") ∈ lw_tbl := lw_at lw_m8 217 rfl
theorem in_X4 : ∀ w ∈ wsX40, w ∈ lw_all := lw_in wsX40 [302, 304, 306, 308, 310, 312, 314, 316, 318] (by decide +kernel) (by decide +kernel)
/-! MaskedEars$Told -/
set_option maxRecDepth 100000
def RX5 : String := "MaskedEars$Told"
def TX5 : u_T := fun k => match k with
  | 0 => ("MaskedEars$Told", "tones", "I", false)
  | 1 => ("MaskedEars$Told", "across", "I", false)
  | 2 => ("MaskedEars$Told", "gap", "I", false)
  | 3 => ("MaskedEars$Told", "rise", "I", false)
  | 4 => ("MaskedEars$Told", "flats", "I", false)
  | 5 => ("MaskedEars$Told", "least", "[I", true)
  | _ => ("MaskedEars$Told", "slips", "Ljava/util/ArrayList;", true)
def tyX5 : Nat → FieldType := fun k => match k with
  | 0 => .int
  | 1 => .int
  | 2 => .int
  | 3 => .int
  | 4 => .int
  | 5 => .array .int
  | _ => .object "java/util/ArrayList"
abbrev wsX50 : List Cond := u_ws RX5 TX5 7
theorem nmX5 : ∀ a, a < 7 → ∀ b, b < 7 → a ≠ b → (TX5 a).2.1 ≠ (TX5 b).2.1 := by decide +kernel
theorem tyX5_ok : ∀ k, k < 7 → parseFieldDescriptor (TX5 k).2.2.1 = some (tyX5 k) := by decide +kernel
abbrev cX5_init : ByteArray := prog_11_method_1_code
def yX5_init : MethodName := ⟨RX5, "<init>", "()V"⟩
def dkwX5_init_0 : List UInt8 := [42, 183, 0, 3, 42, 16, 24, 188, 10, 181, 0, 9, 42, 187, 0, 15, 89, 183, 0, 17, 181, 0, 18, 177]
abbrev dktX5_init_0 : List UInt8 := dkwX5_init_0 ++ []
theorem dksX5_init_0 : cX5_init.data.toList.drop 0 = dktX5_init_0 := by decide +kernel
theorem dX5_init_0 : decode cX5_init 0 = .ok (.aload_n 0, 1) := dk_42 (dk_at dksX5_init_0 0 rfl rfl)
theorem dX5_init_1 : decode cX5_init 1 = .ok (.invokespecial 3, 3) := dk_183 0 3 (dk_at dksX5_init_0 1 rfl rfl)
theorem dX5_init_4 : decode cX5_init 4 = .ok (.aload_n 0, 1) := dk_42 (dk_at dksX5_init_0 4 rfl rfl)
theorem dX5_init_5 : decode cX5_init 5 = .ok (.bipush 24, 2) := dk_16 24 (dk_at dksX5_init_0 5 rfl rfl)
theorem dX5_init_7 : decode cX5_init 7 = .ok (.newarray .int, 2) := dk_188_10 (dk_at dksX5_init_0 7 rfl rfl)
theorem dX5_init_9 : decode cX5_init 9 = .ok (.putfield 9, 3) := dk_181 0 9 (dk_at dksX5_init_0 9 rfl rfl)
theorem dX5_init_12 : decode cX5_init 12 = .ok (.aload_n 0, 1) := dk_42 (dk_at dksX5_init_0 12 rfl rfl)
theorem dX5_init_13 : decode cX5_init 13 = .ok (.new 15, 3) := dk_187 0 15 (dk_at dksX5_init_0 13 rfl rfl)
theorem dX5_init_16 : decode cX5_init 16 = .ok (.dup, 1) := dk_89 (dk_at dksX5_init_0 16 rfl rfl)
theorem dX5_init_17 : decode cX5_init 17 = .ok (.invokespecial 17, 3) := dk_183 0 17 (dk_at dksX5_init_0 17 rfl rfl)
theorem dX5_init_20 : decode cX5_init 20 = .ok (.putfield 18, 3) := dk_181 0 18 (dk_at dksX5_init_0 20 rfl rfl)
theorem dX5_init_23 : decode cX5_init 23 = .ok (.return_, 1) := dk_177 (dk_at dksX5_init_0 23 rfl rfl)
abbrev cX5_lays : ByteArray := prog_11_method_3_code
def yX5_lays : MethodName := ⟨RX5, "lays", "(IIII)V"⟩
def dkwX5_lays_0 : List UInt8 := [42, 180, 0, 9, 5, 27, 104, 28, 96, 16, 6, 104, 29, 96, 21, 4, 79, 177]
abbrev dktX5_lays_0 : List UInt8 := dkwX5_lays_0 ++ []
theorem dksX5_lays_0 : cX5_lays.data.toList.drop 0 = dktX5_lays_0 := by decide +kernel
theorem dX5_lays_0 : decode cX5_lays 0 = .ok (.aload_n 0, 1) := dk_42 (dk_at dksX5_lays_0 0 rfl rfl)
theorem dX5_lays_1 : decode cX5_lays 1 = .ok (.getfield 9, 3) := dk_180 0 9 (dk_at dksX5_lays_0 1 rfl rfl)
theorem dX5_lays_4 : decode cX5_lays 4 = .ok (.iconst 2, 1) := dk_5 (dk_at dksX5_lays_0 4 rfl rfl)
theorem dX5_lays_5 : decode cX5_lays 5 = .ok (.iload_n 1, 1) := dk_27 (dk_at dksX5_lays_0 5 rfl rfl)
theorem dX5_lays_6 : decode cX5_lays 6 = .ok (.imul, 1) := dk_104 (dk_at dksX5_lays_0 6 rfl rfl)
theorem dX5_lays_7 : decode cX5_lays 7 = .ok (.iload_n 2, 1) := dk_28 (dk_at dksX5_lays_0 7 rfl rfl)
theorem dX5_lays_8 : decode cX5_lays 8 = .ok (.iadd, 1) := dk_96 (dk_at dksX5_lays_0 8 rfl rfl)
theorem dX5_lays_9 : decode cX5_lays 9 = .ok (.bipush 6, 2) := dk_16 6 (dk_at dksX5_lays_0 9 rfl rfl)
theorem dX5_lays_11 : decode cX5_lays 11 = .ok (.imul, 1) := dk_104 (dk_at dksX5_lays_0 11 rfl rfl)
theorem dX5_lays_12 : decode cX5_lays 12 = .ok (.iload_n 3, 1) := dk_29 (dk_at dksX5_lays_0 12 rfl rfl)
theorem dX5_lays_13 : decode cX5_lays 13 = .ok (.iadd, 1) := dk_96 (dk_at dksX5_lays_0 13 rfl rfl)
theorem dX5_lays_14 : decode cX5_lays 14 = .ok (.iload 4, 2) := dk_21 4 (dk_at dksX5_lays_0 14 rfl rfl)
theorem dX5_lays_16 : decode cX5_lays 16 = .ok (.iastore, 1) := dk_79 (dk_at dksX5_lays_0 16 rfl rfl)
theorem dX5_lays_17 : decode cX5_lays 17 = .ok (.return_, 1) := dk_177 (dk_at dksX5_lays_0 17 rfl rfl)
abbrev cX5_apart : ByteArray := prog_11_method_4_code
def yX5_apart : MethodName := ⟨RX5, "apart", "(II)I"⟩
def dkwX5_apart_0 : List UInt8 := [42, 3, 27, 28, 182, 0, 22, 42, 4, 27, 28, 182, 0, 22, 100, 172]
abbrev dktX5_apart_0 : List UInt8 := dkwX5_apart_0 ++ []
theorem dksX5_apart_0 : cX5_apart.data.toList.drop 0 = dktX5_apart_0 := by decide +kernel
theorem dX5_apart_0 : decode cX5_apart 0 = .ok (.aload_n 0, 1) := dk_42 (dk_at dksX5_apart_0 0 rfl rfl)
theorem dX5_apart_1 : decode cX5_apart 1 = .ok (.iconst 0, 1) := dk_3 (dk_at dksX5_apart_0 1 rfl rfl)
theorem dX5_apart_2 : decode cX5_apart 2 = .ok (.iload_n 1, 1) := dk_27 (dk_at dksX5_apart_0 2 rfl rfl)
theorem dX5_apart_3 : decode cX5_apart 3 = .ok (.iload_n 2, 1) := dk_28 (dk_at dksX5_apart_0 3 rfl rfl)
theorem dX5_apart_4 : decode cX5_apart 4 = .ok (.invokevirtual 22, 3) := dk_182 0 22 (dk_at dksX5_apart_0 4 rfl rfl)
theorem dX5_apart_7 : decode cX5_apart 7 = .ok (.aload_n 0, 1) := dk_42 (dk_at dksX5_apart_0 7 rfl rfl)
theorem dX5_apart_8 : decode cX5_apart 8 = .ok (.iconst 1, 1) := dk_4 (dk_at dksX5_apart_0 8 rfl rfl)
theorem dX5_apart_9 : decode cX5_apart 9 = .ok (.iload_n 1, 1) := dk_27 (dk_at dksX5_apart_0 9 rfl rfl)
theorem dX5_apart_10 : decode cX5_apart 10 = .ok (.iload_n 2, 1) := dk_28 (dk_at dksX5_apart_0 10 rfl rfl)
theorem dX5_apart_11 : decode cX5_apart 11 = .ok (.invokevirtual 22, 3) := dk_182 0 22 (dk_at dksX5_apart_0 11 rfl rfl)
theorem dX5_apart_14 : decode cX5_apart 14 = .ok (.isub, 1) := dk_100 (dk_at dksX5_apart_0 14 rfl rfl)
theorem dX5_apart_15 : decode cX5_apart 15 = .ok (.ireturn, 1) := dk_172 (dk_at dksX5_apart_0 15 rfl rfl)
abbrev cX5_least : ByteArray := prog_11_method_2_code
def yX5_least : MethodName := ⟨RX5, "least", "(III)I"⟩
def dkwX5_least_0 : List UInt8 := [42, 180, 0, 9, 5, 27, 104, 28, 96, 16, 6, 104, 29, 96, 46, 172]
abbrev dktX5_least_0 : List UInt8 := dkwX5_least_0 ++ []
theorem dksX5_least_0 : cX5_least.data.toList.drop 0 = dktX5_least_0 := by decide +kernel
theorem dX5_least_0 : decode cX5_least 0 = .ok (.aload_n 0, 1) := dk_42 (dk_at dksX5_least_0 0 rfl rfl)
theorem dX5_least_1 : decode cX5_least 1 = .ok (.getfield 9, 3) := dk_180 0 9 (dk_at dksX5_least_0 1 rfl rfl)
theorem dX5_least_4 : decode cX5_least 4 = .ok (.iconst 2, 1) := dk_5 (dk_at dksX5_least_0 4 rfl rfl)
theorem dX5_least_5 : decode cX5_least 5 = .ok (.iload_n 1, 1) := dk_27 (dk_at dksX5_least_0 5 rfl rfl)
theorem dX5_least_6 : decode cX5_least 6 = .ok (.imul, 1) := dk_104 (dk_at dksX5_least_0 6 rfl rfl)
theorem dX5_least_7 : decode cX5_least 7 = .ok (.iload_n 2, 1) := dk_28 (dk_at dksX5_least_0 7 rfl rfl)
theorem dX5_least_8 : decode cX5_least 8 = .ok (.iadd, 1) := dk_96 (dk_at dksX5_least_0 8 rfl rfl)
theorem dX5_least_9 : decode cX5_least 9 = .ok (.bipush 6, 2) := dk_16 6 (dk_at dksX5_least_0 9 rfl rfl)
theorem dX5_least_11 : decode cX5_least 11 = .ok (.imul, 1) := dk_104 (dk_at dksX5_least_0 11 rfl rfl)
theorem dX5_least_12 : decode cX5_least 12 = .ok (.iload_n 3, 1) := dk_29 (dk_at dksX5_least_0 12 rfl rfl)
theorem dX5_least_13 : decode cX5_least 13 = .ok (.iadd, 1) := dk_96 (dk_at dksX5_least_0 13 rfl rfl)
theorem dX5_least_14 : decode cX5_least 14 = .ok (.iaload, 1) := dk_46 (dk_at dksX5_least_0 14 rfl rfl)
theorem dX5_least_15 : decode cX5_least 15 = .ok (.ireturn, 1) := dk_172 (dk_at dksX5_least_0 15 rfl rfl)
abbrev cX5_hears : ByteArray := prog_11_method_6_code
def yX5_hears : MethodName := ⟨RX5, "hears", "(IIIIII)Z"⟩
def dkwX5_hears_2 : List UInt8 := [161, 0, 14, 21, 7, 21, 8, 161, 0, 7, 4, 167, 0, 4, 3, 172]
abbrev dktX5_hears_2 : List UInt8 := dkwX5_hears_2 ++ []
def dkwX5_hears_1 : List UInt8 := [3, 4, 28, 100, 29, 21, 5, 21, 6, 182, 0, 33, 54, 8, 21, 7, 42, 4, 21, 6, 29, 182, 0, 22]
abbrev dktX5_hears_1 : List UInt8 := dkwX5_hears_1 ++ dktX5_hears_2
def dkwX5_hears_0 : List UInt8 := [42, 27, 28, 29, 21, 4, 21, 6, 182, 0, 33, 54, 7, 21, 5, 156, 0, 8, 16, 157, 167, 0, 16, 42]
abbrev dktX5_hears_0 : List UInt8 := dkwX5_hears_0 ++ dktX5_hears_1
theorem dksX5_hears_0 : cX5_hears.data.toList.drop 0 = dktX5_hears_0 := by decide +kernel
theorem dksX5_hears_1 : cX5_hears.data.toList.drop 24 = dktX5_hears_1 := dk_seg dksX5_hears_0 24 rfl rfl
theorem dksX5_hears_2 : cX5_hears.data.toList.drop 48 = dktX5_hears_2 := dk_seg dksX5_hears_1 24 rfl rfl
theorem dX5_hears_0 : decode cX5_hears 0 = .ok (.aload_n 0, 1) := dk_42 (dk_at dksX5_hears_0 0 rfl rfl)
theorem dX5_hears_1 : decode cX5_hears 1 = .ok (.iload_n 1, 1) := dk_27 (dk_at dksX5_hears_0 1 rfl rfl)
theorem dX5_hears_2 : decode cX5_hears 2 = .ok (.iload_n 2, 1) := dk_28 (dk_at dksX5_hears_0 2 rfl rfl)
theorem dX5_hears_3 : decode cX5_hears 3 = .ok (.iload_n 3, 1) := dk_29 (dk_at dksX5_hears_0 3 rfl rfl)
theorem dX5_hears_4 : decode cX5_hears 4 = .ok (.iload 4, 2) := dk_21 4 (dk_at dksX5_hears_0 4 rfl rfl)
theorem dX5_hears_6 : decode cX5_hears 6 = .ok (.iload 6, 2) := dk_21 6 (dk_at dksX5_hears_0 6 rfl rfl)
theorem dX5_hears_8 : decode cX5_hears 8 = .ok (.invokevirtual 33, 3) := dk_182 0 33 (dk_at dksX5_hears_0 8 rfl rfl)
theorem dX5_hears_11 : decode cX5_hears 11 = .ok (.istore 7, 2) := dk_54 7 (dk_at dksX5_hears_0 11 rfl rfl)
theorem dX5_hears_13 : decode cX5_hears 13 = .ok (.iload 5, 2) := dk_21 5 (dk_at dksX5_hears_0 13 rfl rfl)
theorem dX5_hears_15 : decode cX5_hears 15 = .ok (.ifCond .ge 8, 3) := dk_156 0 8 (dk_at dksX5_hears_0 15 rfl rfl)
theorem dX5_hears_18 : decode cX5_hears 18 = .ok (.bipush (-99), 2) := dk_16 157 (dk_at dksX5_hears_0 18 rfl rfl)
theorem dX5_hears_20 : decode cX5_hears 20 = .ok (.goto 16, 3) := dk_167 0 16 (dk_at dksX5_hears_0 20 rfl rfl)
theorem dX5_hears_23 : decode cX5_hears 23 = .ok (.aload_n 0, 1) := dk_42 (dk_at dksX5_hears_0 23 rfl rfl)
theorem dX5_hears_24 : decode cX5_hears 24 = .ok (.iconst 0, 1) := dk_3 (dk_at dksX5_hears_1 0 rfl rfl)
theorem dX5_hears_25 : decode cX5_hears 25 = .ok (.iconst 1, 1) := dk_4 (dk_at dksX5_hears_1 1 rfl rfl)
theorem dX5_hears_26 : decode cX5_hears 26 = .ok (.iload_n 2, 1) := dk_28 (dk_at dksX5_hears_1 2 rfl rfl)
theorem dX5_hears_27 : decode cX5_hears 27 = .ok (.isub, 1) := dk_100 (dk_at dksX5_hears_1 3 rfl rfl)
theorem dX5_hears_28 : decode cX5_hears 28 = .ok (.iload_n 3, 1) := dk_29 (dk_at dksX5_hears_1 4 rfl rfl)
theorem dX5_hears_29 : decode cX5_hears 29 = .ok (.iload 5, 2) := dk_21 5 (dk_at dksX5_hears_1 5 rfl rfl)
theorem dX5_hears_31 : decode cX5_hears 31 = .ok (.iload 6, 2) := dk_21 6 (dk_at dksX5_hears_1 7 rfl rfl)
theorem dX5_hears_33 : decode cX5_hears 33 = .ok (.invokevirtual 33, 3) := dk_182 0 33 (dk_at dksX5_hears_1 9 rfl rfl)
theorem dX5_hears_36 : decode cX5_hears 36 = .ok (.istore 8, 2) := dk_54 8 (dk_at dksX5_hears_1 12 rfl rfl)
theorem dX5_hears_38 : decode cX5_hears 38 = .ok (.iload 7, 2) := dk_21 7 (dk_at dksX5_hears_1 14 rfl rfl)
theorem dX5_hears_40 : decode cX5_hears 40 = .ok (.aload_n 0, 1) := dk_42 (dk_at dksX5_hears_1 16 rfl rfl)
theorem dX5_hears_41 : decode cX5_hears 41 = .ok (.iconst 1, 1) := dk_4 (dk_at dksX5_hears_1 17 rfl rfl)
theorem dX5_hears_42 : decode cX5_hears 42 = .ok (.iload 6, 2) := dk_21 6 (dk_at dksX5_hears_1 18 rfl rfl)
theorem dX5_hears_44 : decode cX5_hears 44 = .ok (.iload_n 3, 1) := dk_29 (dk_at dksX5_hears_1 20 rfl rfl)
theorem dX5_hears_45 : decode cX5_hears 45 = .ok (.invokevirtual 22, 3) := dk_182 0 22 (dk_at dksX5_hears_1 21 rfl rfl)
theorem dX5_hears_48 : decode cX5_hears 48 = .ok (.if_icmp .lt 14, 3) := dk_161 0 14 (dk_at dksX5_hears_2 0 rfl rfl)
theorem dX5_hears_51 : decode cX5_hears 51 = .ok (.iload 7, 2) := dk_21 7 (dk_at dksX5_hears_2 3 rfl rfl)
theorem dX5_hears_53 : decode cX5_hears 53 = .ok (.iload 8, 2) := dk_21 8 (dk_at dksX5_hears_2 5 rfl rfl)
theorem dX5_hears_55 : decode cX5_hears 55 = .ok (.if_icmp .lt 7, 3) := dk_161 0 7 (dk_at dksX5_hears_2 7 rfl rfl)
theorem dX5_hears_58 : decode cX5_hears 58 = .ok (.iconst 1, 1) := dk_4 (dk_at dksX5_hears_2 10 rfl rfl)
theorem dX5_hears_59 : decode cX5_hears 59 = .ok (.goto 4, 3) := dk_167 0 4 (dk_at dksX5_hears_2 11 rfl rfl)
theorem dX5_hears_62 : decode cX5_hears 62 = .ok (.iconst 0, 1) := dk_3 (dk_at dksX5_hears_2 14 rfl rfl)
theorem dX5_hears_63 : decode cX5_hears 63 = .ok (.ireturn, 1) := dk_172 (dk_at dksX5_hears_2 15 rfl rfl)
abbrev cX5_within : ByteArray := prog_11_method_5_code
def yX5_within : MethodName := ⟨RX5, "within", "(IIIII)I"⟩
def dkwX5_within_1 : List UInt8 := [167, 0, 10, 21, 4, 42, 180, 0, 29, 100, 172]
abbrev dktX5_within_1 : List UInt8 := dkwX5_within_1 ++ []
def dkwX5_within_0 : List UInt8 := [27, 4, 160, 0, 6, 21, 4, 172, 28, 21, 5, 160, 0, 15, 21, 4, 42, 28, 29, 182, 0, 25, 100]
abbrev dktX5_within_0 : List UInt8 := dkwX5_within_0 ++ dktX5_within_1
theorem dksX5_within_0 : cX5_within.data.toList.drop 0 = dktX5_within_0 := by decide +kernel
theorem dksX5_within_1 : cX5_within.data.toList.drop 23 = dktX5_within_1 := dk_seg dksX5_within_0 23 rfl rfl
theorem dX5_within_0 : decode cX5_within 0 = .ok (.iload_n 1, 1) := dk_27 (dk_at dksX5_within_0 0 rfl rfl)
theorem dX5_within_1 : decode cX5_within 1 = .ok (.iconst 1, 1) := dk_4 (dk_at dksX5_within_0 1 rfl rfl)
theorem dX5_within_2 : decode cX5_within 2 = .ok (.if_icmp .ne 6, 3) := dk_160 0 6 (dk_at dksX5_within_0 2 rfl rfl)
theorem dX5_within_5 : decode cX5_within 5 = .ok (.iload 4, 2) := dk_21 4 (dk_at dksX5_within_0 5 rfl rfl)
theorem dX5_within_7 : decode cX5_within 7 = .ok (.ireturn, 1) := dk_172 (dk_at dksX5_within_0 7 rfl rfl)
theorem dX5_within_8 : decode cX5_within 8 = .ok (.iload_n 2, 1) := dk_28 (dk_at dksX5_within_0 8 rfl rfl)
theorem dX5_within_9 : decode cX5_within 9 = .ok (.iload 5, 2) := dk_21 5 (dk_at dksX5_within_0 9 rfl rfl)
theorem dX5_within_11 : decode cX5_within 11 = .ok (.if_icmp .ne 15, 3) := dk_160 0 15 (dk_at dksX5_within_0 11 rfl rfl)
theorem dX5_within_14 : decode cX5_within 14 = .ok (.iload 4, 2) := dk_21 4 (dk_at dksX5_within_0 14 rfl rfl)
theorem dX5_within_16 : decode cX5_within 16 = .ok (.aload_n 0, 1) := dk_42 (dk_at dksX5_within_0 16 rfl rfl)
theorem dX5_within_17 : decode cX5_within 17 = .ok (.iload_n 2, 1) := dk_28 (dk_at dksX5_within_0 17 rfl rfl)
theorem dX5_within_18 : decode cX5_within 18 = .ok (.iload_n 3, 1) := dk_29 (dk_at dksX5_within_0 18 rfl rfl)
theorem dX5_within_19 : decode cX5_within 19 = .ok (.invokevirtual 25, 3) := dk_182 0 25 (dk_at dksX5_within_0 19 rfl rfl)
theorem dX5_within_22 : decode cX5_within 22 = .ok (.isub, 1) := dk_100 (dk_at dksX5_within_0 22 rfl rfl)
theorem dX5_within_23 : decode cX5_within 23 = .ok (.goto 10, 3) := dk_167 0 10 (dk_at dksX5_within_1 0 rfl rfl)
theorem dX5_within_26 : decode cX5_within 26 = .ok (.iload 4, 2) := dk_21 4 (dk_at dksX5_within_1 3 rfl rfl)
theorem dX5_within_28 : decode cX5_within 28 = .ok (.aload_n 0, 1) := dk_42 (dk_at dksX5_within_1 5 rfl rfl)
theorem dX5_within_29 : decode cX5_within 29 = .ok (.getfield 29, 3) := dk_180 0 29 (dk_at dksX5_within_1 6 rfl rfl)
theorem dX5_within_32 : decode cX5_within 32 = .ok (.isub, 1) := dk_100 (dk_at dksX5_within_1 9 rfl rfl)
theorem dX5_within_33 : decode cX5_within 33 = .ok (.ireturn, 1) := dk_172 (dk_at dksX5_within_1 10 rfl rfl)
abbrev cX5_hears_2 : ByteArray := prog_11_method_7_code
def yX5_hears_2 : MethodName := ⟨RX5, "hears", "(IIIII)Z"⟩
def dkwX5_hears_2_1 : List UInt8 := [182, 0, 37, 153, 0, 7, 4, 167, 0, 4, 3, 172]
abbrev dktX5_hears_2_1 : List UInt8 := dkwX5_hears_2_1 ++ []
def dkwX5_hears_2_0 : List UInt8 := [42, 27, 28, 29, 21, 4, 21, 5, 3, 182, 0, 37, 154, 0, 18, 42, 27, 28, 29, 21, 4, 21, 5, 4]
abbrev dktX5_hears_2_0 : List UInt8 := dkwX5_hears_2_0 ++ dktX5_hears_2_1
theorem dksX5_hears_2_0 : cX5_hears_2.data.toList.drop 0 = dktX5_hears_2_0 := by decide +kernel
theorem dksX5_hears_2_1 : cX5_hears_2.data.toList.drop 24 = dktX5_hears_2_1 := dk_seg dksX5_hears_2_0 24 rfl rfl
theorem dX5_hears_2_0 : decode cX5_hears_2 0 = .ok (.aload_n 0, 1) := dk_42 (dk_at dksX5_hears_2_0 0 rfl rfl)
theorem dX5_hears_2_1 : decode cX5_hears_2 1 = .ok (.iload_n 1, 1) := dk_27 (dk_at dksX5_hears_2_0 1 rfl rfl)
theorem dX5_hears_2_2 : decode cX5_hears_2 2 = .ok (.iload_n 2, 1) := dk_28 (dk_at dksX5_hears_2_0 2 rfl rfl)
theorem dX5_hears_2_3 : decode cX5_hears_2 3 = .ok (.iload_n 3, 1) := dk_29 (dk_at dksX5_hears_2_0 3 rfl rfl)
theorem dX5_hears_2_4 : decode cX5_hears_2 4 = .ok (.iload 4, 2) := dk_21 4 (dk_at dksX5_hears_2_0 4 rfl rfl)
theorem dX5_hears_2_6 : decode cX5_hears_2 6 = .ok (.iload 5, 2) := dk_21 5 (dk_at dksX5_hears_2_0 6 rfl rfl)
theorem dX5_hears_2_8 : decode cX5_hears_2 8 = .ok (.iconst 0, 1) := dk_3 (dk_at dksX5_hears_2_0 8 rfl rfl)
theorem dX5_hears_2_9 : decode cX5_hears_2 9 = .ok (.invokevirtual 37, 3) := dk_182 0 37 (dk_at dksX5_hears_2_0 9 rfl rfl)
theorem dX5_hears_2_12 : decode cX5_hears_2 12 = .ok (.ifCond .ne 18, 3) := dk_154 0 18 (dk_at dksX5_hears_2_0 12 rfl rfl)
theorem dX5_hears_2_15 : decode cX5_hears_2 15 = .ok (.aload_n 0, 1) := dk_42 (dk_at dksX5_hears_2_0 15 rfl rfl)
theorem dX5_hears_2_16 : decode cX5_hears_2 16 = .ok (.iload_n 1, 1) := dk_27 (dk_at dksX5_hears_2_0 16 rfl rfl)
theorem dX5_hears_2_17 : decode cX5_hears_2 17 = .ok (.iload_n 2, 1) := dk_28 (dk_at dksX5_hears_2_0 17 rfl rfl)
theorem dX5_hears_2_18 : decode cX5_hears_2 18 = .ok (.iload_n 3, 1) := dk_29 (dk_at dksX5_hears_2_0 18 rfl rfl)
theorem dX5_hears_2_19 : decode cX5_hears_2 19 = .ok (.iload 4, 2) := dk_21 4 (dk_at dksX5_hears_2_0 19 rfl rfl)
theorem dX5_hears_2_21 : decode cX5_hears_2 21 = .ok (.iload 5, 2) := dk_21 5 (dk_at dksX5_hears_2_0 21 rfl rfl)
theorem dX5_hears_2_23 : decode cX5_hears_2 23 = .ok (.iconst 1, 1) := dk_4 (dk_at dksX5_hears_2_0 23 rfl rfl)
theorem dX5_hears_2_24 : decode cX5_hears_2 24 = .ok (.invokevirtual 37, 3) := dk_182 0 37 (dk_at dksX5_hears_2_1 0 rfl rfl)
theorem dX5_hears_2_27 : decode cX5_hears_2 27 = .ok (.ifCond .eq 7, 3) := dk_153 0 7 (dk_at dksX5_hears_2_1 3 rfl rfl)
theorem dX5_hears_2_30 : decode cX5_hears_2 30 = .ok (.iconst 1, 1) := dk_4 (dk_at dksX5_hears_2_1 6 rfl rfl)
theorem dX5_hears_2_31 : decode cX5_hears_2 31 = .ok (.goto 4, 3) := dk_167 0 4 (dk_at dksX5_hears_2_1 7 rfl rfl)
theorem dX5_hears_2_34 : decode cX5_hears_2 34 = .ok (.iconst 0, 1) := dk_3 (dk_at dksX5_hears_2_1 10 rfl rfl)
theorem dX5_hears_2_35 : decode cX5_hears_2 35 = .ok (.ireturn, 1) := dk_172 (dk_at dksX5_hears_2_1 11 rfl rfl)
theorem q113 : (Jvm.Cond.initialized "MaskedEars$Told") ∈ lw_all := lw_g (lw_at lw_m1 8 rfl) rfl
theorem q251 : (Jvm.Cond.instantiable "MaskedEars$Told" (7 : Nat)) ∈ lw_all := lw_g (lw_at lw_m1 146 rfl) rfl
theorem q253 : (Jvm.Cond.instanceMethod ({ cls := "MaskedEars$Told", name := "<init>", desc := "()V" } : Jvm.MethodName)) ∈ lw_all := lw_g (lw_at lw_m1 148 rfl) rfl
theorem q254 : (Jvm.Cond.code ({ cls := "MaskedEars$Told", name := "<init>", desc := "()V" } : Jvm.MethodName) prog_11_method_1_code (1 : Nat) (Option.none : Option Jvm.ClassFile.FieldType)) ∈ lw_all := lw_g (lw_at lw_m1 149 rfl) rfl
theorem q255 : (Jvm.Cond.methodLink "MaskedEars$Told" (3 : Nat) ({ cls := "java/lang/Object", name := "<init>", desc := "()V" } : Jvm.MethodName)) ∈ lw_all := lw_g (lw_at lw_m1 150 rfl) rfl
theorem q256 : (Jvm.Cond.classLink "MaskedEars$Told" (15 : Nat) "java/util/ArrayList") ∈ lw_all := lw_g (lw_at lw_m1 151 rfl) rfl
theorem q257 : (Jvm.Cond.methodLink "MaskedEars$Told" (17 : Nat) ({ cls := "java/util/ArrayList", name := "<init>", desc := "()V" } : Jvm.MethodName)) ∈ lw_all := lw_g (lw_at lw_m1 152 rfl) rfl
theorem q261 : (Jvm.Cond.fieldLink "MaskedEars$Told" (29 : Nat) "MaskedEars$Told" "across" "I") ∈ lw_all := lw_g (lw_at lw_m1 156 rfl) rfl
theorem q274 : (Jvm.Cond.fieldLink "MaskedEars$Told" (9 : Nat) "MaskedEars$Told" "least" "[I") ∈ lw_all := lw_g (lw_at lw_m1 169 rfl) rfl
theorem q275 : (Jvm.Cond.fieldLink "MaskedEars$Told" (18 : Nat) "MaskedEars$Told" "slips" "Ljava/util/ArrayList;") ∈ lw_all := lw_g (lw_at lw_m1 170 rfl) rfl
theorem q278 : (Jvm.Cond.lays "MaskedEars$Told" "MaskedEars$Told" "tones" "I") ∈ lw_all := lw_g (lw_at lw_m1 173 rfl) rfl
theorem q279 : (Jvm.Cond.soleField "MaskedEars$Told" "tones") ∈ lw_all := lw_g (lw_at lw_m1 174 rfl) rfl
theorem q280 : (Jvm.Cond.lays "MaskedEars$Told" "MaskedEars$Told" "across" "I") ∈ lw_all := lw_g (lw_at lw_m1 175 rfl) rfl
theorem q281 : (Jvm.Cond.soleField "MaskedEars$Told" "across") ∈ lw_all := lw_g (lw_at lw_m1 176 rfl) rfl
theorem q282 : (Jvm.Cond.lays "MaskedEars$Told" "MaskedEars$Told" "gap" "I") ∈ lw_all := lw_g (lw_at lw_m1 177 rfl) rfl
theorem q283 : (Jvm.Cond.soleField "MaskedEars$Told" "gap") ∈ lw_all := lw_g (lw_at lw_m1 178 rfl) rfl
theorem q284 : (Jvm.Cond.lays "MaskedEars$Told" "MaskedEars$Told" "rise" "I") ∈ lw_all := lw_g (lw_at lw_m1 179 rfl) rfl
theorem q285 : (Jvm.Cond.soleField "MaskedEars$Told" "rise") ∈ lw_all := lw_g (lw_at lw_m1 180 rfl) rfl
theorem q286 : (Jvm.Cond.lays "MaskedEars$Told" "MaskedEars$Told" "flats" "I") ∈ lw_all := lw_g (lw_at lw_m1 181 rfl) rfl
theorem q287 : (Jvm.Cond.soleField "MaskedEars$Told" "flats") ∈ lw_all := lw_g (lw_at lw_m1 182 rfl) rfl
theorem q288 : (Jvm.Cond.laysFinal "MaskedEars$Told" "MaskedEars$Told" "least" "[I") ∈ lw_all := lw_g (lw_at lw_m1 183 rfl) rfl
theorem q289 : (Jvm.Cond.soleField "MaskedEars$Told" "least") ∈ lw_all := lw_g (lw_at lw_m1 184 rfl) rfl
theorem q290 : (Jvm.Cond.laysFinal "MaskedEars$Told" "MaskedEars$Told" "slips" "Ljava/util/ArrayList;") ∈ lw_all := lw_g (lw_at lw_m1 185 rfl) rfl
theorem q291 : (Jvm.Cond.soleField "MaskedEars$Told" "slips") ∈ lw_all := lw_g (lw_at lw_m1 186 rfl) rfl
theorem q292 : (Jvm.Cond.superclass "MaskedEars$Told" "java/lang/Object") ∈ lw_all := lw_g (lw_at lw_m1 187 rfl) rfl
theorem q511 : (Jvm.Cond.instanceMethod ({ cls := "MaskedEars$Told", name := "lays", desc := "(IIII)V" } : Jvm.MethodName)) ∈ lw_all := lw_g (lw_at lw_m2 166 rfl) rfl
theorem q512 : (Jvm.Cond.selects "MaskedEars$Told" ({ cls := "MaskedEars$Told", name := "lays", desc := "(IIII)V" } : Jvm.MethodName) ({ cls := "MaskedEars$Told", name := "lays", desc := "(IIII)V" } : Jvm.MethodName)) ∈ lw_all := lw_g (lw_at lw_m2 167 rfl) rfl
theorem q513 : (Jvm.Cond.code ({ cls := "MaskedEars$Told", name := "lays", desc := "(IIII)V" } : Jvm.MethodName) prog_11_method_3_code (5 : Nat) (Option.none : Option Jvm.ClassFile.FieldType)) ∈ lw_all := lw_g (lw_at lw_m2 168 rfl) rfl
theorem q516 : (Jvm.Cond.privateMethod ({ cls := "MaskedEars$Told", name := "apart", desc := "(II)I" } : Jvm.MethodName)) ∈ lw_tbl := lw_at lw_m2 171 rfl
theorem q517 : (Jvm.Cond.instanceMethod ({ cls := "MaskedEars$Told", name := "apart", desc := "(II)I" } : Jvm.MethodName)) ∈ lw_all := lw_g (lw_at lw_m2 172 rfl) rfl
theorem q518 : (Jvm.Cond.code ({ cls := "MaskedEars$Told", name := "apart", desc := "(II)I" } : Jvm.MethodName) prog_11_method_4_code (3 : Nat) (Option.some Jvm.ClassFile.FieldType.int)) ∈ lw_all := lw_g (lw_at lw_m2 173 rfl) rfl
theorem q519 : (Jvm.Cond.methodLink "MaskedEars$Told" (22 : Nat) ({ cls := "MaskedEars$Told", name := "least", desc := "(III)I" } : Jvm.MethodName)) ∈ lw_all := lw_g (lw_at lw_m2 174 rfl) rfl
theorem q520 : (Jvm.Cond.instanceMethod ({ cls := "MaskedEars$Told", name := "least", desc := "(III)I" } : Jvm.MethodName)) ∈ lw_all := lw_g (lw_at lw_m2 175 rfl) rfl
theorem q521 : (Jvm.Cond.selects "MaskedEars$Told" ({ cls := "MaskedEars$Told", name := "least", desc := "(III)I" } : Jvm.MethodName) ({ cls := "MaskedEars$Told", name := "least", desc := "(III)I" } : Jvm.MethodName)) ∈ lw_all := lw_g (lw_at lw_m2 176 rfl) rfl
theorem q522 : (Jvm.Cond.code ({ cls := "MaskedEars$Told", name := "least", desc := "(III)I" } : Jvm.MethodName) prog_11_method_2_code (4 : Nat) (Option.some Jvm.ClassFile.FieldType.int)) ∈ lw_all := lw_g (lw_at lw_m2 177 rfl) rfl
theorem q616 : (Jvm.Cond.selects "MaskedEars$Told" ({ cls := "java/lang/Object", name := "getClass", desc := "()Ljava/lang/Class;" } : Jvm.MethodName) ({ cls := "java/lang/Object", name := "getClass", desc := "()Ljava/lang/Class;" } : Jvm.MethodName)) ∈ lw_all := lw_g (lw_at lw_m3 31 rfl) rfl
theorem q1006 : (Jvm.Cond.instanceMethod ({ cls := "MaskedEars$Told", name := "hears", desc := "(IIIIII)Z" } : Jvm.MethodName)) ∈ lw_all := lw_g (lw_at lw_m4 181 rfl) rfl
theorem q1007 : (Jvm.Cond.selects "MaskedEars$Told" ({ cls := "MaskedEars$Told", name := "hears", desc := "(IIIIII)Z" } : Jvm.MethodName) ({ cls := "MaskedEars$Told", name := "hears", desc := "(IIIIII)Z" } : Jvm.MethodName)) ∈ lw_all := lw_g (lw_at lw_m4 182 rfl) rfl
theorem q1008 : (Jvm.Cond.code ({ cls := "MaskedEars$Told", name := "hears", desc := "(IIIIII)Z" } : Jvm.MethodName) prog_11_method_6_code (9 : Nat) (Option.some Jvm.ClassFile.FieldType.boolean)) ∈ lw_all := lw_g (lw_at lw_m4 183 rfl) rfl
theorem q1009 : (Jvm.Cond.methodLink "MaskedEars$Told" (33 : Nat) ({ cls := "MaskedEars$Told", name := "within", desc := "(IIIII)I" } : Jvm.MethodName)) ∈ lw_all := lw_g (lw_at lw_m4 184 rfl) rfl
theorem q1010 : (Jvm.Cond.privateMethod ({ cls := "MaskedEars$Told", name := "within", desc := "(IIIII)I" } : Jvm.MethodName)) ∈ lw_tbl := lw_at lw_m4 185 rfl
theorem q1011 : (Jvm.Cond.instanceMethod ({ cls := "MaskedEars$Told", name := "within", desc := "(IIIII)I" } : Jvm.MethodName)) ∈ lw_all := lw_g (lw_at lw_m4 186 rfl) rfl
theorem q1012 : (Jvm.Cond.code ({ cls := "MaskedEars$Told", name := "within", desc := "(IIIII)I" } : Jvm.MethodName) prog_11_method_5_code (6 : Nat) (Option.some Jvm.ClassFile.FieldType.int)) ∈ lw_all := lw_g (lw_at lw_m4 187 rfl) rfl
theorem q1013 : (Jvm.Cond.methodLink "MaskedEars$Told" (25 : Nat) ({ cls := "MaskedEars$Told", name := "apart", desc := "(II)I" } : Jvm.MethodName)) ∈ lw_all := lw_g (lw_at lw_m4 188 rfl) rfl
theorem q1023 : (Jvm.Cond.instanceMethod ({ cls := "MaskedEars$Told", name := "hears", desc := "(IIIII)Z" } : Jvm.MethodName)) ∈ lw_all := lw_g (lw_at lw_m4 198 rfl) rfl
theorem q1024 : (Jvm.Cond.selects "MaskedEars$Told" ({ cls := "MaskedEars$Told", name := "hears", desc := "(IIIII)Z" } : Jvm.MethodName) ({ cls := "MaskedEars$Told", name := "hears", desc := "(IIIII)Z" } : Jvm.MethodName)) ∈ lw_all := lw_g (lw_at lw_m4 199 rfl) rfl
theorem q1025 : (Jvm.Cond.code ({ cls := "MaskedEars$Told", name := "hears", desc := "(IIIII)Z" } : Jvm.MethodName) prog_11_method_7_code (6 : Nat) (Option.some Jvm.ClassFile.FieldType.boolean)) ∈ lw_all := lw_g (lw_at lw_m4 200 rfl) rfl
theorem q1026 : (Jvm.Cond.methodLink "MaskedEars$Told" (37 : Nat) ({ cls := "MaskedEars$Told", name := "hears", desc := "(IIIIII)Z" } : Jvm.MethodName)) ∈ lw_all := lw_g (lw_at lw_m4 201 rfl) rfl
theorem q1215 : (Jvm.Cond.selects "MaskedEars$Told" ({ cls := "java/lang/Object", name := "equals", desc := "(Ljava/lang/Object;)Z" } : Jvm.MethodName) ({ cls := "java/lang/Object", name := "equals", desc := "(Ljava/lang/Object;)Z" } : Jvm.MethodName)) ∈ lw_all := lw_g (lw_at lw_m5 150 rfl) rfl
theorem q2003 : (Jvm.Cond.castable "MaskedEars$Told" "java/lang/Object") ∈ lw_tbl := lw_at lw_m8 218 rfl
theorem in_X5 : ∀ w ∈ wsX50, w ∈ lw_all := lw_in wsX50 [278, 280, 282, 284, 286, 288, 290] (by decide +kernel) (by decide +kernel)
/-! MaskedEars$Fault -/
set_option maxRecDepth 100000
def RX6 : String := "MaskedEars$Fault"
def TX6 : u_T := fun k => match k with
  | 0 => ("java/lang/Throwable", "cause", "Ljava/lang/Throwable;", false)
  | 1 => ("java/lang/Throwable", "stackTrace", "[Ljava/lang/StackTraceElement;", false)
  | 2 => ("java/lang/Throwable", "suppressedExceptions", "Ljava/util/List;", false)
  | 3 => ("java/lang/Throwable", "detailMessage", "Ljava/lang/String;", false)
  | 4 => ("java/lang/Throwable", "backtrace", "Ljava/lang/Object;", false)
  | 5 => ("java/lang/Throwable", "depth", "I", false)
  | 6 => ("MaskedEars$Fault", "kind", "I", true)
  | _ => ("MaskedEars$Fault", "place", "I", true)
def tyX6 : Nat → FieldType := fun k => match k with
  | 0 => .object "java/lang/Throwable"
  | 1 => .array (.object "java/lang/StackTraceElement")
  | 2 => .object "java/util/List"
  | 3 => .object "java/lang/String"
  | 4 => .object "java/lang/Object"
  | 5 => .int
  | 6 => .int
  | _ => .int
abbrev wsX60 : List Cond := u_ws RX6 TX6 8
theorem nmX6 : ∀ a, a < 8 → ∀ b, b < 8 → a ≠ b → (TX6 a).2.1 ≠ (TX6 b).2.1 := by decide +kernel
theorem tyX6_ok : ∀ k, k < 8 → parseFieldDescriptor (TX6 k).2.2.1 = some (tyX6 k) := by decide +kernel
abbrev cX6_init : ByteArray := prog_3_method_1_code
def yX6_init : MethodName := ⟨RX6, "<init>", "(II)V"⟩
def dkwX6_init_0 : List UInt8 := [42, 1, 1, 3, 3, 183, 0, 1, 42, 27, 181, 0, 7, 42, 28, 181, 0, 13, 177]
abbrev dktX6_init_0 : List UInt8 := dkwX6_init_0 ++ []
theorem dksX6_init_0 : cX6_init.data.toList.drop 0 = dktX6_init_0 := by decide +kernel
theorem dX6_init_0 : decode cX6_init 0 = .ok (.aload_n 0, 1) := dk_42 (dk_at dksX6_init_0 0 rfl rfl)
theorem dX6_init_1 : decode cX6_init 1 = .ok (.aconst_null, 1) := dk_1 (dk_at dksX6_init_0 1 rfl rfl)
theorem dX6_init_2 : decode cX6_init 2 = .ok (.aconst_null, 1) := dk_1 (dk_at dksX6_init_0 2 rfl rfl)
theorem dX6_init_3 : decode cX6_init 3 = .ok (.iconst 0, 1) := dk_3 (dk_at dksX6_init_0 3 rfl rfl)
theorem dX6_init_4 : decode cX6_init 4 = .ok (.iconst 0, 1) := dk_3 (dk_at dksX6_init_0 4 rfl rfl)
theorem dX6_init_5 : decode cX6_init 5 = .ok (.invokespecial 1, 3) := dk_183 0 1 (dk_at dksX6_init_0 5 rfl rfl)
theorem dX6_init_8 : decode cX6_init 8 = .ok (.aload_n 0, 1) := dk_42 (dk_at dksX6_init_0 8 rfl rfl)
theorem dX6_init_9 : decode cX6_init 9 = .ok (.iload_n 1, 1) := dk_27 (dk_at dksX6_init_0 9 rfl rfl)
theorem dX6_init_10 : decode cX6_init 10 = .ok (.putfield 7, 3) := dk_181 0 7 (dk_at dksX6_init_0 10 rfl rfl)
theorem dX6_init_13 : decode cX6_init 13 = .ok (.aload_n 0, 1) := dk_42 (dk_at dksX6_init_0 13 rfl rfl)
theorem dX6_init_14 : decode cX6_init 14 = .ok (.iload_n 2, 1) := dk_28 (dk_at dksX6_init_0 14 rfl rfl)
theorem dX6_init_15 : decode cX6_init 15 = .ok (.putfield 13, 3) := dk_181 0 13 (dk_at dksX6_init_0 15 rfl rfl)
theorem dX6_init_18 : decode cX6_init 18 = .ok (.return_, 1) := dk_177 (dk_at dksX6_init_0 18 rfl rfl)
theorem q120 : (Jvm.Cond.initialized "MaskedEars$Fault") ∈ lw_all := lw_g (lw_at lw_m1 15 rfl) rfl
theorem q417 : (Jvm.Cond.instantiable "MaskedEars$Fault" (8 : Nat)) ∈ lw_all := lw_g (lw_at lw_m2 72 rfl) rfl
theorem q418 : (Jvm.Cond.castable "MaskedEars$Fault" "MaskedEars$Fault") ∈ lw_tbl := lw_at lw_m2 73 rfl
theorem q423 : (Jvm.Cond.selects "MaskedEars$Fault" ({ cls := "java/lang/Throwable", name := "fillInStackTrace", desc := "(I)Ljava/lang/Throwable;" } : Jvm.MethodName) ({ cls := "java/lang/Throwable", name := "fillInStackTrace", desc := "(I)Ljava/lang/Throwable;" } : Jvm.MethodName)) ∈ lw_all := lw_g (lw_at lw_m2 78 rfl) rfl
theorem q424 : (Jvm.Cond.selects "MaskedEars$Fault" ({ cls := "java/lang/Throwable", name := "fillInStackTrace", desc := "()Ljava/lang/Throwable;" } : Jvm.MethodName) ({ cls := "java/lang/Throwable", name := "fillInStackTrace", desc := "()Ljava/lang/Throwable;" } : Jvm.MethodName)) ∈ lw_all := lw_g (lw_at lw_m2 79 rfl) rfl
theorem q425 : (Jvm.Cond.lays "MaskedEars$Fault" "java/lang/Throwable" "cause" "Ljava/lang/Throwable;") ∈ lw_all := lw_g (lw_at lw_m2 80 rfl) rfl
theorem q427 : (Jvm.Cond.lays "MaskedEars$Fault" "java/lang/Throwable" "stackTrace" "[Ljava/lang/StackTraceElement;") ∈ lw_all := lw_g (lw_at lw_m2 82 rfl) rfl
theorem q429 : (Jvm.Cond.lays "MaskedEars$Fault" "java/lang/Throwable" "suppressedExceptions" "Ljava/util/List;") ∈ lw_all := lw_g (lw_at lw_m2 84 rfl) rfl
theorem q431 : (Jvm.Cond.lays "MaskedEars$Fault" "java/lang/Throwable" "detailMessage" "Ljava/lang/String;") ∈ lw_all := lw_g (lw_at lw_m2 86 rfl) rfl
theorem q433 : (Jvm.Cond.lays "MaskedEars$Fault" "java/lang/Throwable" "backtrace" "Ljava/lang/Object;") ∈ lw_all := lw_g (lw_at lw_m2 88 rfl) rfl
theorem q458 : (Jvm.Cond.instanceMethod ({ cls := "MaskedEars$Fault", name := "<init>", desc := "(II)V" } : Jvm.MethodName)) ∈ lw_all := lw_g (lw_at lw_m2 113 rfl) rfl
theorem q459 : (Jvm.Cond.code ({ cls := "MaskedEars$Fault", name := "<init>", desc := "(II)V" } : Jvm.MethodName) prog_3_method_1_code (3 : Nat) (Option.none : Option Jvm.ClassFile.FieldType)) ∈ lw_all := lw_g (lw_at lw_m2 114 rfl) rfl
theorem q460 : (Jvm.Cond.methodLink "MaskedEars$Fault" (1 : Nat) ({ cls := "java/lang/Exception", name := "<init>", desc := "(Ljava/lang/String;Ljava/lang/Throwable;ZZ)V" } : Jvm.MethodName)) ∈ lw_all := lw_g (lw_at lw_m2 115 rfl) rfl
theorem q466 : (Jvm.Cond.fieldLink "MaskedEars$Fault" (7 : Nat) "MaskedEars$Fault" "kind" "I") ∈ lw_all := lw_g (lw_at lw_m2 121 rfl) rfl
theorem q468 : (Jvm.Cond.fieldLink "MaskedEars$Fault" (13 : Nat) "MaskedEars$Fault" "place" "I") ∈ lw_all := lw_g (lw_at lw_m2 123 rfl) rfl
theorem q475 : (Jvm.Cond.laysFinal "MaskedEars$Fault" "MaskedEars$Fault" "kind" "I") ∈ lw_all := lw_g (lw_at lw_m2 130 rfl) rfl
theorem q476 : (Jvm.Cond.soleField "MaskedEars$Fault" "kind") ∈ lw_all := lw_g (lw_at lw_m2 131 rfl) rfl
theorem q477 : (Jvm.Cond.laysFinal "MaskedEars$Fault" "MaskedEars$Fault" "place" "I") ∈ lw_all := lw_g (lw_at lw_m2 132 rfl) rfl
theorem q478 : (Jvm.Cond.soleField "MaskedEars$Fault" "place") ∈ lw_all := lw_g (lw_at lw_m2 133 rfl) rfl
theorem q483 : (Jvm.Cond.lays "MaskedEars$Fault" "java/lang/Throwable" "depth" "I") ∈ lw_all := lw_g (lw_at lw_m2 138 rfl) rfl
theorem q486 : (Jvm.Cond.superclass "MaskedEars$Fault" "java/lang/Exception") ∈ lw_all := lw_g (lw_at lw_m2 141 rfl) rfl
theorem q608 : (Jvm.Cond.selects "MaskedEars$Fault" ({ cls := "java/lang/Object", name := "getClass", desc := "()Ljava/lang/Class;" } : Jvm.MethodName) ({ cls := "java/lang/Object", name := "getClass", desc := "()Ljava/lang/Class;" } : Jvm.MethodName)) ∈ lw_all := lw_g (lw_at lw_m3 23 rfl) rfl
theorem q1205 : (Jvm.Cond.selects "MaskedEars$Fault" ({ cls := "java/lang/Object", name := "equals", desc := "(Ljava/lang/Object;)Z" } : Jvm.MethodName) ({ cls := "java/lang/Object", name := "equals", desc := "(Ljava/lang/Object;)Z" } : Jvm.MethodName)) ∈ lw_all := lw_g (lw_at lw_m5 140 rfl) rfl
theorem q2004 : (Jvm.Cond.castable "MaskedEars$Fault" "java/lang/Object") ∈ lw_tbl := lw_at lw_m8 219 rfl
theorem in_X6 : ∀ w ∈ wsX60, w ∈ lw_all := lw_in wsX60 [425, 427, 429, 431, 433, 483, 475, 477] (by decide +kernel) (by decide +kernel)
/-! MaskedEars$Test -/
set_option maxRecDepth 100000
def RX7 : String := "MaskedEars$Test"
def TX7 : u_T := fun k => match k with
  | 0 => ("MaskedEars$Test", "told", "LMaskedEars$Told;", true)
  | 1 => ("MaskedEars$Test", "tasks", "Ljava/util/ArrayList;", true)
  | 2 => ("MaskedEars$Test", "on", "I", false)
  | 3 => ("MaskedEars$Test", "many", "I", false)
  | _ => ("MaskedEars$Test", "hasMasked", "Z", false)
def tyX7 : Nat → FieldType := fun k => match k with
  | 0 => .object "MaskedEars$Told"
  | 1 => .object "java/util/ArrayList"
  | 2 => .int
  | 3 => .int
  | _ => .boolean
abbrev wsX70 : List Cond := u_ws RX7 TX7 5
theorem nmX7 : ∀ a, a < 5 → ∀ b, b < 5 → a ≠ b → (TX7 a).2.1 ≠ (TX7 b).2.1 := by decide +kernel
theorem tyX7_ok : ∀ k, k < 5 → parseFieldDescriptor (TX7 k).2.2.1 = some (tyX7 k) := by decide +kernel
abbrev cX7_init : ByteArray := prog_10_method_1_code
def yX7_init : MethodName := ⟨RX7, "<init>", "(LMaskedEars$Told;)V"⟩
def dkwX7_init_4 : List UInt8 := [182, 0, 40, 177]
abbrev dktX7_init_4 : List UInt8 := dkwX7_init_4 ++ []
def dkwX7_init_3 : List UInt8 := [182, 0, 36, 87, 132, 4, 1, 167, 255, 227, 132, 3, 1, 167, 255, 210, 132, 2, 1, 167, 255, 197, 42]
abbrev dktX7_init_3 : List UInt8 := dkwX7_init_3 ++ dktX7_init_4
def dkwX7_init_2 : List UInt8 := [21, 4, 5, 162, 0, 29, 42, 180, 0, 12, 187, 0, 31, 89, 28, 21, 4, 29, 3, 183, 0, 33]
abbrev dktX7_init_2 : List UInt8 := dkwX7_init_2 ++ dktX7_init_3
def dkwX7_init_1 : List UInt8 := [181, 0, 22, 3, 61, 28, 5, 162, 0, 60, 3, 62, 29, 43, 180, 0, 26, 162, 0, 44, 3, 54, 4]
abbrev dktX7_init_1 : List UInt8 := dkwX7_init_1 ++ dktX7_init_2
def dkwX7_init_0 : List UInt8 := [42, 183, 0, 3, 42, 187, 0, 9, 89, 183, 0, 11, 181, 0, 12, 42, 2, 181, 0, 18, 42, 43]
abbrev dktX7_init_0 : List UInt8 := dkwX7_init_0 ++ dktX7_init_1
theorem dksX7_init_0 : cX7_init.data.toList.drop 0 = dktX7_init_0 := by decide +kernel
theorem dksX7_init_1 : cX7_init.data.toList.drop 22 = dktX7_init_1 := dk_seg dksX7_init_0 22 rfl rfl
theorem dksX7_init_2 : cX7_init.data.toList.drop 45 = dktX7_init_2 := dk_seg dksX7_init_1 23 rfl rfl
theorem dksX7_init_3 : cX7_init.data.toList.drop 67 = dktX7_init_3 := dk_seg dksX7_init_2 22 rfl rfl
theorem dksX7_init_4 : cX7_init.data.toList.drop 90 = dktX7_init_4 := dk_seg dksX7_init_3 23 rfl rfl
theorem dX7_init_0 : decode cX7_init 0 = .ok (.aload_n 0, 1) := dk_42 (dk_at dksX7_init_0 0 rfl rfl)
theorem dX7_init_1 : decode cX7_init 1 = .ok (.invokespecial 3, 3) := dk_183 0 3 (dk_at dksX7_init_0 1 rfl rfl)
theorem dX7_init_4 : decode cX7_init 4 = .ok (.aload_n 0, 1) := dk_42 (dk_at dksX7_init_0 4 rfl rfl)
theorem dX7_init_5 : decode cX7_init 5 = .ok (.new 9, 3) := dk_187 0 9 (dk_at dksX7_init_0 5 rfl rfl)
theorem dX7_init_8 : decode cX7_init 8 = .ok (.dup, 1) := dk_89 (dk_at dksX7_init_0 8 rfl rfl)
theorem dX7_init_9 : decode cX7_init 9 = .ok (.invokespecial 11, 3) := dk_183 0 11 (dk_at dksX7_init_0 9 rfl rfl)
theorem dX7_init_12 : decode cX7_init 12 = .ok (.putfield 12, 3) := dk_181 0 12 (dk_at dksX7_init_0 12 rfl rfl)
theorem dX7_init_15 : decode cX7_init 15 = .ok (.aload_n 0, 1) := dk_42 (dk_at dksX7_init_0 15 rfl rfl)
theorem dX7_init_16 : decode cX7_init 16 = .ok (.iconst (-1), 1) := dk_2 (dk_at dksX7_init_0 16 rfl rfl)
theorem dX7_init_17 : decode cX7_init 17 = .ok (.putfield 18, 3) := dk_181 0 18 (dk_at dksX7_init_0 17 rfl rfl)
theorem dX7_init_20 : decode cX7_init 20 = .ok (.aload_n 0, 1) := dk_42 (dk_at dksX7_init_0 20 rfl rfl)
theorem dX7_init_21 : decode cX7_init 21 = .ok (.aload_n 1, 1) := dk_43 (dk_at dksX7_init_0 21 rfl rfl)
theorem dX7_init_22 : decode cX7_init 22 = .ok (.putfield 22, 3) := dk_181 0 22 (dk_at dksX7_init_1 0 rfl rfl)
theorem dX7_init_25 : decode cX7_init 25 = .ok (.iconst 0, 1) := dk_3 (dk_at dksX7_init_1 3 rfl rfl)
theorem dX7_init_26 : decode cX7_init 26 = .ok (.istore_n 2, 1) := dk_61 (dk_at dksX7_init_1 4 rfl rfl)
theorem dX7_init_27 : decode cX7_init 27 = .ok (.iload_n 2, 1) := dk_28 (dk_at dksX7_init_1 5 rfl rfl)
theorem dX7_init_28 : decode cX7_init 28 = .ok (.iconst 2, 1) := dk_5 (dk_at dksX7_init_1 6 rfl rfl)
theorem dX7_init_29 : decode cX7_init 29 = .ok (.if_icmp .ge 60, 3) := dk_162 0 60 (dk_at dksX7_init_1 7 rfl rfl)
theorem dX7_init_32 : decode cX7_init 32 = .ok (.iconst 0, 1) := dk_3 (dk_at dksX7_init_1 10 rfl rfl)
theorem dX7_init_33 : decode cX7_init 33 = .ok (.istore_n 3, 1) := dk_62 (dk_at dksX7_init_1 11 rfl rfl)
theorem dX7_init_34 : decode cX7_init 34 = .ok (.iload_n 3, 1) := dk_29 (dk_at dksX7_init_1 12 rfl rfl)
theorem dX7_init_35 : decode cX7_init 35 = .ok (.aload_n 1, 1) := dk_43 (dk_at dksX7_init_1 13 rfl rfl)
theorem dX7_init_36 : decode cX7_init 36 = .ok (.getfield 26, 3) := dk_180 0 26 (dk_at dksX7_init_1 14 rfl rfl)
theorem dX7_init_39 : decode cX7_init 39 = .ok (.if_icmp .ge 44, 3) := dk_162 0 44 (dk_at dksX7_init_1 17 rfl rfl)
theorem dX7_init_42 : decode cX7_init 42 = .ok (.iconst 0, 1) := dk_3 (dk_at dksX7_init_1 20 rfl rfl)
theorem dX7_init_43 : decode cX7_init 43 = .ok (.istore 4, 2) := dk_54 4 (dk_at dksX7_init_1 21 rfl rfl)
theorem dX7_init_45 : decode cX7_init 45 = .ok (.iload 4, 2) := dk_21 4 (dk_at dksX7_init_2 0 rfl rfl)
theorem dX7_init_47 : decode cX7_init 47 = .ok (.iconst 2, 1) := dk_5 (dk_at dksX7_init_2 2 rfl rfl)
theorem dX7_init_48 : decode cX7_init 48 = .ok (.if_icmp .ge 29, 3) := dk_162 0 29 (dk_at dksX7_init_2 3 rfl rfl)
theorem dX7_init_51 : decode cX7_init 51 = .ok (.aload_n 0, 1) := dk_42 (dk_at dksX7_init_2 6 rfl rfl)
theorem dX7_init_52 : decode cX7_init 52 = .ok (.getfield 12, 3) := dk_180 0 12 (dk_at dksX7_init_2 7 rfl rfl)
theorem dX7_init_55 : decode cX7_init 55 = .ok (.new 31, 3) := dk_187 0 31 (dk_at dksX7_init_2 10 rfl rfl)
theorem dX7_init_58 : decode cX7_init 58 = .ok (.dup, 1) := dk_89 (dk_at dksX7_init_2 13 rfl rfl)
theorem dX7_init_59 : decode cX7_init 59 = .ok (.iload_n 2, 1) := dk_28 (dk_at dksX7_init_2 14 rfl rfl)
theorem dX7_init_60 : decode cX7_init 60 = .ok (.iload 4, 2) := dk_21 4 (dk_at dksX7_init_2 15 rfl rfl)
theorem dX7_init_62 : decode cX7_init 62 = .ok (.iload_n 3, 1) := dk_29 (dk_at dksX7_init_2 17 rfl rfl)
theorem dX7_init_63 : decode cX7_init 63 = .ok (.iconst 0, 1) := dk_3 (dk_at dksX7_init_2 18 rfl rfl)
theorem dX7_init_64 : decode cX7_init 64 = .ok (.invokespecial 33, 3) := dk_183 0 33 (dk_at dksX7_init_2 19 rfl rfl)
theorem dX7_init_67 : decode cX7_init 67 = .ok (.invokevirtual 36, 3) := dk_182 0 36 (dk_at dksX7_init_3 0 rfl rfl)
theorem dX7_init_70 : decode cX7_init 70 = .ok (.pop, 1) := dk_87 (dk_at dksX7_init_3 3 rfl rfl)
theorem dX7_init_71 : decode cX7_init 71 = .ok (.iinc 4 1, 3) := dk_132 4 1 (dk_at dksX7_init_3 4 rfl rfl)
theorem dX7_init_74 : decode cX7_init 74 = .ok (.goto (-29), 3) := dk_167 255 227 (dk_at dksX7_init_3 7 rfl rfl)
theorem dX7_init_77 : decode cX7_init 77 = .ok (.iinc 3 1, 3) := dk_132 3 1 (dk_at dksX7_init_3 10 rfl rfl)
theorem dX7_init_80 : decode cX7_init 80 = .ok (.goto (-46), 3) := dk_167 255 210 (dk_at dksX7_init_3 13 rfl rfl)
theorem dX7_init_83 : decode cX7_init 83 = .ok (.iinc 2 1, 3) := dk_132 2 1 (dk_at dksX7_init_3 16 rfl rfl)
theorem dX7_init_86 : decode cX7_init 86 = .ok (.goto (-59), 3) := dk_167 255 197 (dk_at dksX7_init_3 19 rfl rfl)
theorem dX7_init_89 : decode cX7_init 89 = .ok (.aload_n 0, 1) := dk_42 (dk_at dksX7_init_3 22 rfl rfl)
theorem dX7_init_90 : decode cX7_init 90 = .ok (.invokevirtual 40, 3) := dk_182 0 40 (dk_at dksX7_init_4 0 rfl rfl)
theorem dX7_init_93 : decode cX7_init 93 = .ok (.return_, 1) := dk_177 (dk_at dksX7_init_4 3 rfl rfl)
abbrev cX7_goesOn : ByteArray := prog_10_method_11_code
def yX7_goesOn : MethodName := ⟨RX7, "goesOn", "()V"⟩
def dkwX7_goesOn_2 : List UInt8 := [159, 0, 18, 42, 42, 180, 0, 18, 182, 0, 130, 154, 0, 7, 4, 167, 0, 4, 3, 60, 167, 255, 192, 177]
abbrev dktX7_goesOn_2 : List UInt8 := dkwX7_goesOn_2 ++ []
def dkwX7_goesOn_1 : List UInt8 := [180, 0, 63, 154, 0, 15, 42, 182, 0, 127, 42, 42, 182, 0, 124, 181, 0, 18, 42, 180, 0, 18, 2]
abbrev dktX7_goesOn_1 : List UInt8 := dkwX7_goesOn_1 ++ dktX7_goesOn_2
def dkwX7_goesOn_0 : List UInt8 := [4, 60, 27, 153, 0, 66, 42, 42, 182, 0, 124, 181, 0, 18, 42, 180, 0, 18, 2, 160, 0, 22, 42]
abbrev dktX7_goesOn_0 : List UInt8 := dkwX7_goesOn_0 ++ dktX7_goesOn_1
theorem dksX7_goesOn_0 : cX7_goesOn.data.toList.drop 0 = dktX7_goesOn_0 := by decide +kernel
theorem dksX7_goesOn_1 : cX7_goesOn.data.toList.drop 23 = dktX7_goesOn_1 := dk_seg dksX7_goesOn_0 23 rfl rfl
theorem dksX7_goesOn_2 : cX7_goesOn.data.toList.drop 46 = dktX7_goesOn_2 := dk_seg dksX7_goesOn_1 23 rfl rfl
theorem dX7_goesOn_0 : decode cX7_goesOn 0 = .ok (.iconst 1, 1) := dk_4 (dk_at dksX7_goesOn_0 0 rfl rfl)
theorem dX7_goesOn_1 : decode cX7_goesOn 1 = .ok (.istore_n 1, 1) := dk_60 (dk_at dksX7_goesOn_0 1 rfl rfl)
theorem dX7_goesOn_2 : decode cX7_goesOn 2 = .ok (.iload_n 1, 1) := dk_27 (dk_at dksX7_goesOn_0 2 rfl rfl)
theorem dX7_goesOn_3 : decode cX7_goesOn 3 = .ok (.ifCond .eq 66, 3) := dk_153 0 66 (dk_at dksX7_goesOn_0 3 rfl rfl)
theorem dX7_goesOn_6 : decode cX7_goesOn 6 = .ok (.aload_n 0, 1) := dk_42 (dk_at dksX7_goesOn_0 6 rfl rfl)
theorem dX7_goesOn_7 : decode cX7_goesOn 7 = .ok (.aload_n 0, 1) := dk_42 (dk_at dksX7_goesOn_0 7 rfl rfl)
theorem dX7_goesOn_8 : decode cX7_goesOn 8 = .ok (.invokevirtual 124, 3) := dk_182 0 124 (dk_at dksX7_goesOn_0 8 rfl rfl)
theorem dX7_goesOn_11 : decode cX7_goesOn 11 = .ok (.putfield 18, 3) := dk_181 0 18 (dk_at dksX7_goesOn_0 11 rfl rfl)
theorem dX7_goesOn_14 : decode cX7_goesOn 14 = .ok (.aload_n 0, 1) := dk_42 (dk_at dksX7_goesOn_0 14 rfl rfl)
theorem dX7_goesOn_15 : decode cX7_goesOn 15 = .ok (.getfield 18, 3) := dk_180 0 18 (dk_at dksX7_goesOn_0 15 rfl rfl)
theorem dX7_goesOn_18 : decode cX7_goesOn 18 = .ok (.iconst (-1), 1) := dk_2 (dk_at dksX7_goesOn_0 18 rfl rfl)
theorem dX7_goesOn_19 : decode cX7_goesOn 19 = .ok (.if_icmp .ne 22, 3) := dk_160 0 22 (dk_at dksX7_goesOn_0 19 rfl rfl)
theorem dX7_goesOn_22 : decode cX7_goesOn 22 = .ok (.aload_n 0, 1) := dk_42 (dk_at dksX7_goesOn_0 22 rfl rfl)
theorem dX7_goesOn_23 : decode cX7_goesOn 23 = .ok (.getfield 63, 3) := dk_180 0 63 (dk_at dksX7_goesOn_1 0 rfl rfl)
theorem dX7_goesOn_26 : decode cX7_goesOn 26 = .ok (.ifCond .ne 15, 3) := dk_154 0 15 (dk_at dksX7_goesOn_1 3 rfl rfl)
theorem dX7_goesOn_29 : decode cX7_goesOn 29 = .ok (.aload_n 0, 1) := dk_42 (dk_at dksX7_goesOn_1 6 rfl rfl)
theorem dX7_goesOn_30 : decode cX7_goesOn 30 = .ok (.invokevirtual 127, 3) := dk_182 0 127 (dk_at dksX7_goesOn_1 7 rfl rfl)
theorem dX7_goesOn_33 : decode cX7_goesOn 33 = .ok (.aload_n 0, 1) := dk_42 (dk_at dksX7_goesOn_1 10 rfl rfl)
theorem dX7_goesOn_34 : decode cX7_goesOn 34 = .ok (.aload_n 0, 1) := dk_42 (dk_at dksX7_goesOn_1 11 rfl rfl)
theorem dX7_goesOn_35 : decode cX7_goesOn 35 = .ok (.invokevirtual 124, 3) := dk_182 0 124 (dk_at dksX7_goesOn_1 12 rfl rfl)
theorem dX7_goesOn_38 : decode cX7_goesOn 38 = .ok (.putfield 18, 3) := dk_181 0 18 (dk_at dksX7_goesOn_1 15 rfl rfl)
theorem dX7_goesOn_41 : decode cX7_goesOn 41 = .ok (.aload_n 0, 1) := dk_42 (dk_at dksX7_goesOn_1 18 rfl rfl)
theorem dX7_goesOn_42 : decode cX7_goesOn 42 = .ok (.getfield 18, 3) := dk_180 0 18 (dk_at dksX7_goesOn_1 19 rfl rfl)
theorem dX7_goesOn_45 : decode cX7_goesOn 45 = .ok (.iconst (-1), 1) := dk_2 (dk_at dksX7_goesOn_1 22 rfl rfl)
theorem dX7_goesOn_46 : decode cX7_goesOn 46 = .ok (.if_icmp .eq 18, 3) := dk_159 0 18 (dk_at dksX7_goesOn_2 0 rfl rfl)
theorem dX7_goesOn_49 : decode cX7_goesOn 49 = .ok (.aload_n 0, 1) := dk_42 (dk_at dksX7_goesOn_2 3 rfl rfl)
theorem dX7_goesOn_50 : decode cX7_goesOn 50 = .ok (.aload_n 0, 1) := dk_42 (dk_at dksX7_goesOn_2 4 rfl rfl)
theorem dX7_goesOn_51 : decode cX7_goesOn 51 = .ok (.getfield 18, 3) := dk_180 0 18 (dk_at dksX7_goesOn_2 5 rfl rfl)
theorem dX7_goesOn_54 : decode cX7_goesOn 54 = .ok (.invokevirtual 130, 3) := dk_182 0 130 (dk_at dksX7_goesOn_2 8 rfl rfl)
theorem dX7_goesOn_57 : decode cX7_goesOn 57 = .ok (.ifCond .ne 7, 3) := dk_154 0 7 (dk_at dksX7_goesOn_2 11 rfl rfl)
theorem dX7_goesOn_60 : decode cX7_goesOn 60 = .ok (.iconst 1, 1) := dk_4 (dk_at dksX7_goesOn_2 14 rfl rfl)
theorem dX7_goesOn_61 : decode cX7_goesOn 61 = .ok (.goto 4, 3) := dk_167 0 4 (dk_at dksX7_goesOn_2 15 rfl rfl)
theorem dX7_goesOn_64 : decode cX7_goesOn 64 = .ok (.iconst 0, 1) := dk_3 (dk_at dksX7_goesOn_2 18 rfl rfl)
theorem dX7_goesOn_65 : decode cX7_goesOn 65 = .ok (.istore_n 1, 1) := dk_60 (dk_at dksX7_goesOn_2 19 rfl rfl)
theorem dX7_goesOn_66 : decode cX7_goesOn 66 = .ok (.goto (-64), 3) := dk_167 255 192 (dk_at dksX7_goesOn_2 20 rfl rfl)
theorem dX7_goesOn_69 : decode cX7_goesOn 69 = .ok (.return_, 1) := dk_177 (dk_at dksX7_goesOn_2 23 rfl rfl)
abbrev cX7_nextTask : ByteArray := prog_10_method_10_code
def yX7_nextTask : MethodName := ⟨RX7, "nextTask", "()I"⟩
def dkwX7_nextTask_1 : List UInt8 := [180, 0, 102, 154, 0, 5, 27, 172, 132, 1, 1, 167, 255, 223, 2, 172]
abbrev dktX7_nextTask_1 : List UInt8 := dkwX7_nextTask_1 ++ []
def dkwX7_nextTask_0 : List UInt8 := [3, 60, 27, 42, 180, 0, 12, 182, 0, 116, 162, 0, 28, 42, 180, 0, 12, 27, 182, 0, 120, 192, 0, 31]
abbrev dktX7_nextTask_0 : List UInt8 := dkwX7_nextTask_0 ++ dktX7_nextTask_1
theorem dksX7_nextTask_0 : cX7_nextTask.data.toList.drop 0 = dktX7_nextTask_0 := by decide +kernel
theorem dksX7_nextTask_1 : cX7_nextTask.data.toList.drop 24 = dktX7_nextTask_1 := dk_seg dksX7_nextTask_0 24 rfl rfl
theorem dX7_nextTask_0 : decode cX7_nextTask 0 = .ok (.iconst 0, 1) := dk_3 (dk_at dksX7_nextTask_0 0 rfl rfl)
theorem dX7_nextTask_1 : decode cX7_nextTask 1 = .ok (.istore_n 1, 1) := dk_60 (dk_at dksX7_nextTask_0 1 rfl rfl)
theorem dX7_nextTask_2 : decode cX7_nextTask 2 = .ok (.iload_n 1, 1) := dk_27 (dk_at dksX7_nextTask_0 2 rfl rfl)
theorem dX7_nextTask_3 : decode cX7_nextTask 3 = .ok (.aload_n 0, 1) := dk_42 (dk_at dksX7_nextTask_0 3 rfl rfl)
theorem dX7_nextTask_4 : decode cX7_nextTask 4 = .ok (.getfield 12, 3) := dk_180 0 12 (dk_at dksX7_nextTask_0 4 rfl rfl)
theorem dX7_nextTask_7 : decode cX7_nextTask 7 = .ok (.invokevirtual 116, 3) := dk_182 0 116 (dk_at dksX7_nextTask_0 7 rfl rfl)
theorem dX7_nextTask_10 : decode cX7_nextTask 10 = .ok (.if_icmp .ge 28, 3) := dk_162 0 28 (dk_at dksX7_nextTask_0 10 rfl rfl)
theorem dX7_nextTask_13 : decode cX7_nextTask 13 = .ok (.aload_n 0, 1) := dk_42 (dk_at dksX7_nextTask_0 13 rfl rfl)
theorem dX7_nextTask_14 : decode cX7_nextTask 14 = .ok (.getfield 12, 3) := dk_180 0 12 (dk_at dksX7_nextTask_0 14 rfl rfl)
theorem dX7_nextTask_17 : decode cX7_nextTask 17 = .ok (.iload_n 1, 1) := dk_27 (dk_at dksX7_nextTask_0 17 rfl rfl)
theorem dX7_nextTask_18 : decode cX7_nextTask 18 = .ok (.invokevirtual 120, 3) := dk_182 0 120 (dk_at dksX7_nextTask_0 18 rfl rfl)
theorem dX7_nextTask_21 : decode cX7_nextTask 21 = .ok (.checkcast 31, 3) := dk_192 0 31 (dk_at dksX7_nextTask_0 21 rfl rfl)
theorem dX7_nextTask_24 : decode cX7_nextTask 24 = .ok (.getfield 102, 3) := dk_180 0 102 (dk_at dksX7_nextTask_1 0 rfl rfl)
theorem dX7_nextTask_27 : decode cX7_nextTask 27 = .ok (.ifCond .ne 5, 3) := dk_154 0 5 (dk_at dksX7_nextTask_1 3 rfl rfl)
theorem dX7_nextTask_30 : decode cX7_nextTask 30 = .ok (.iload_n 1, 1) := dk_27 (dk_at dksX7_nextTask_1 6 rfl rfl)
theorem dX7_nextTask_31 : decode cX7_nextTask 31 = .ok (.ireturn, 1) := dk_172 (dk_at dksX7_nextTask_1 7 rfl rfl)
theorem dX7_nextTask_32 : decode cX7_nextTask 32 = .ok (.iinc 1 1, 3) := dk_132 1 1 (dk_at dksX7_nextTask_1 8 rfl rfl)
theorem dX7_nextTask_35 : decode cX7_nextTask 35 = .ok (.goto (-33), 3) := dk_167 255 223 (dk_at dksX7_nextTask_1 11 rfl rfl)
theorem dX7_nextTask_38 : decode cX7_nextTask 38 = .ok (.iconst (-1), 1) := dk_2 (dk_at dksX7_nextTask_1 14 rfl rfl)
theorem dX7_nextTask_39 : decode cX7_nextTask 39 = .ok (.ireturn, 1) := dk_172 (dk_at dksX7_nextTask_1 15 rfl rfl)
abbrev cX7_masks : ByteArray := prog_10_method_9_code
def yX7_masks : MethodName := ⟨RX7, "masks", "()V"⟩
def dkwX7_masks_3 : List UInt8 := [167, 255, 200, 132, 1, 1, 167, 255, 187, 177]
abbrev dktX7_masks_3 : List UInt8 := dkwX7_masks_3 ++ []
def dkwX7_masks_2 : List UInt8 := [187, 0, 31, 89, 27, 29, 28, 4, 183, 0, 33, 182, 0, 36, 87, 132, 3, 1, 167, 255, 219, 132, 2, 1]
abbrev dktX7_masks_2 : List UInt8 := dkwX7_masks_2 ++ dktX7_masks_3
def dkwX7_masks_1 : List UInt8 := [162, 0, 51, 3, 62, 29, 5, 162, 0, 38, 42, 27, 29, 28, 182, 0, 112, 153, 0, 22, 42, 180, 0, 12]
abbrev dktX7_masks_1 : List UInt8 := dkwX7_masks_1 ++ dktX7_masks_2
def dkwX7_masks_0 : List UInt8 := [42, 4, 181, 0, 63, 3, 60, 27, 5, 162, 0, 70, 3, 61, 28, 42, 180, 0, 22, 180, 0, 26]
abbrev dktX7_masks_0 : List UInt8 := dkwX7_masks_0 ++ dktX7_masks_1
theorem dksX7_masks_0 : cX7_masks.data.toList.drop 0 = dktX7_masks_0 := by decide +kernel
theorem dksX7_masks_1 : cX7_masks.data.toList.drop 22 = dktX7_masks_1 := dk_seg dksX7_masks_0 22 rfl rfl
theorem dksX7_masks_2 : cX7_masks.data.toList.drop 46 = dktX7_masks_2 := dk_seg dksX7_masks_1 24 rfl rfl
theorem dksX7_masks_3 : cX7_masks.data.toList.drop 70 = dktX7_masks_3 := dk_seg dksX7_masks_2 24 rfl rfl
theorem dX7_masks_0 : decode cX7_masks 0 = .ok (.aload_n 0, 1) := dk_42 (dk_at dksX7_masks_0 0 rfl rfl)
theorem dX7_masks_1 : decode cX7_masks 1 = .ok (.iconst 1, 1) := dk_4 (dk_at dksX7_masks_0 1 rfl rfl)
theorem dX7_masks_2 : decode cX7_masks 2 = .ok (.putfield 63, 3) := dk_181 0 63 (dk_at dksX7_masks_0 2 rfl rfl)
theorem dX7_masks_5 : decode cX7_masks 5 = .ok (.iconst 0, 1) := dk_3 (dk_at dksX7_masks_0 5 rfl rfl)
theorem dX7_masks_6 : decode cX7_masks 6 = .ok (.istore_n 1, 1) := dk_60 (dk_at dksX7_masks_0 6 rfl rfl)
theorem dX7_masks_7 : decode cX7_masks 7 = .ok (.iload_n 1, 1) := dk_27 (dk_at dksX7_masks_0 7 rfl rfl)
theorem dX7_masks_8 : decode cX7_masks 8 = .ok (.iconst 2, 1) := dk_5 (dk_at dksX7_masks_0 8 rfl rfl)
theorem dX7_masks_9 : decode cX7_masks 9 = .ok (.if_icmp .ge 70, 3) := dk_162 0 70 (dk_at dksX7_masks_0 9 rfl rfl)
theorem dX7_masks_12 : decode cX7_masks 12 = .ok (.iconst 0, 1) := dk_3 (dk_at dksX7_masks_0 12 rfl rfl)
theorem dX7_masks_13 : decode cX7_masks 13 = .ok (.istore_n 2, 1) := dk_61 (dk_at dksX7_masks_0 13 rfl rfl)
theorem dX7_masks_14 : decode cX7_masks 14 = .ok (.iload_n 2, 1) := dk_28 (dk_at dksX7_masks_0 14 rfl rfl)
theorem dX7_masks_15 : decode cX7_masks 15 = .ok (.aload_n 0, 1) := dk_42 (dk_at dksX7_masks_0 15 rfl rfl)
theorem dX7_masks_16 : decode cX7_masks 16 = .ok (.getfield 22, 3) := dk_180 0 22 (dk_at dksX7_masks_0 16 rfl rfl)
theorem dX7_masks_19 : decode cX7_masks 19 = .ok (.getfield 26, 3) := dk_180 0 26 (dk_at dksX7_masks_0 19 rfl rfl)
theorem dX7_masks_22 : decode cX7_masks 22 = .ok (.if_icmp .ge 51, 3) := dk_162 0 51 (dk_at dksX7_masks_1 0 rfl rfl)
theorem dX7_masks_25 : decode cX7_masks 25 = .ok (.iconst 0, 1) := dk_3 (dk_at dksX7_masks_1 3 rfl rfl)
theorem dX7_masks_26 : decode cX7_masks 26 = .ok (.istore_n 3, 1) := dk_62 (dk_at dksX7_masks_1 4 rfl rfl)
theorem dX7_masks_27 : decode cX7_masks 27 = .ok (.iload_n 3, 1) := dk_29 (dk_at dksX7_masks_1 5 rfl rfl)
theorem dX7_masks_28 : decode cX7_masks 28 = .ok (.iconst 2, 1) := dk_5 (dk_at dksX7_masks_1 6 rfl rfl)
theorem dX7_masks_29 : decode cX7_masks 29 = .ok (.if_icmp .ge 38, 3) := dk_162 0 38 (dk_at dksX7_masks_1 7 rfl rfl)
theorem dX7_masks_32 : decode cX7_masks 32 = .ok (.aload_n 0, 1) := dk_42 (dk_at dksX7_masks_1 10 rfl rfl)
theorem dX7_masks_33 : decode cX7_masks 33 = .ok (.iload_n 1, 1) := dk_27 (dk_at dksX7_masks_1 11 rfl rfl)
theorem dX7_masks_34 : decode cX7_masks 34 = .ok (.iload_n 3, 1) := dk_29 (dk_at dksX7_masks_1 12 rfl rfl)
theorem dX7_masks_35 : decode cX7_masks 35 = .ok (.iload_n 2, 1) := dk_28 (dk_at dksX7_masks_1 13 rfl rfl)
theorem dX7_masks_36 : decode cX7_masks 36 = .ok (.invokevirtual 112, 3) := dk_182 0 112 (dk_at dksX7_masks_1 14 rfl rfl)
theorem dX7_masks_39 : decode cX7_masks 39 = .ok (.ifCond .eq 22, 3) := dk_153 0 22 (dk_at dksX7_masks_1 17 rfl rfl)
theorem dX7_masks_42 : decode cX7_masks 42 = .ok (.aload_n 0, 1) := dk_42 (dk_at dksX7_masks_1 20 rfl rfl)
theorem dX7_masks_43 : decode cX7_masks 43 = .ok (.getfield 12, 3) := dk_180 0 12 (dk_at dksX7_masks_1 21 rfl rfl)
theorem dX7_masks_46 : decode cX7_masks 46 = .ok (.new 31, 3) := dk_187 0 31 (dk_at dksX7_masks_2 0 rfl rfl)
theorem dX7_masks_49 : decode cX7_masks 49 = .ok (.dup, 1) := dk_89 (dk_at dksX7_masks_2 3 rfl rfl)
theorem dX7_masks_50 : decode cX7_masks 50 = .ok (.iload_n 1, 1) := dk_27 (dk_at dksX7_masks_2 4 rfl rfl)
theorem dX7_masks_51 : decode cX7_masks 51 = .ok (.iload_n 3, 1) := dk_29 (dk_at dksX7_masks_2 5 rfl rfl)
theorem dX7_masks_52 : decode cX7_masks 52 = .ok (.iload_n 2, 1) := dk_28 (dk_at dksX7_masks_2 6 rfl rfl)
theorem dX7_masks_53 : decode cX7_masks 53 = .ok (.iconst 1, 1) := dk_4 (dk_at dksX7_masks_2 7 rfl rfl)
theorem dX7_masks_54 : decode cX7_masks 54 = .ok (.invokespecial 33, 3) := dk_183 0 33 (dk_at dksX7_masks_2 8 rfl rfl)
theorem dX7_masks_57 : decode cX7_masks 57 = .ok (.invokevirtual 36, 3) := dk_182 0 36 (dk_at dksX7_masks_2 11 rfl rfl)
theorem dX7_masks_60 : decode cX7_masks 60 = .ok (.pop, 1) := dk_87 (dk_at dksX7_masks_2 14 rfl rfl)
theorem dX7_masks_61 : decode cX7_masks 61 = .ok (.iinc 3 1, 3) := dk_132 3 1 (dk_at dksX7_masks_2 15 rfl rfl)
theorem dX7_masks_64 : decode cX7_masks 64 = .ok (.goto (-37), 3) := dk_167 255 219 (dk_at dksX7_masks_2 18 rfl rfl)
theorem dX7_masks_67 : decode cX7_masks 67 = .ok (.iinc 2 1, 3) := dk_132 2 1 (dk_at dksX7_masks_2 21 rfl rfl)
theorem dX7_masks_70 : decode cX7_masks 70 = .ok (.goto (-56), 3) := dk_167 255 200 (dk_at dksX7_masks_3 0 rfl rfl)
theorem dX7_masks_73 : decode cX7_masks 73 = .ok (.iinc 1 1, 3) := dk_132 1 1 (dk_at dksX7_masks_3 3 rfl rfl)
theorem dX7_masks_76 : decode cX7_masks 76 = .ok (.goto (-69), 3) := dk_167 255 187 (dk_at dksX7_masks_3 6 rfl rfl)
theorem dX7_masks_79 : decode cX7_masks 79 = .ok (.return_, 1) := dk_177 (dk_at dksX7_masks_3 9 rfl rfl)
abbrev cX7_needs : ByteArray := prog_10_method_8_code
def yX7_needs : MethodName := ⟨RX7, "needs", "(III)Z"⟩
def dkwX7_needs_4 : List UInt8 := [167, 0, 4, 3, 172]
abbrev dktX7_needs_4 : List UInt8 := dkwX7_needs_4 ++ []
def dkwX7_needs_3 : List UInt8 := [182, 0, 83, 180, 0, 87, 42, 4, 4, 29, 182, 0, 83, 180, 0, 87, 184, 0, 93, 161, 0, 7, 4]
abbrev dktX7_needs_3 : List UInt8 := dkwX7_needs_3 ++ dktX7_needs_4
def dkwX7_needs_2 : List UInt8 := [161, 0, 7, 4, 167, 0, 4, 3, 172, 21, 4, 42, 180, 0, 22, 180, 0, 90, 100, 42, 4, 3, 29]
abbrev dktX7_needs_2 : List UInt8 := dkwX7_needs_2 ++ dktX7_needs_3
def dkwX7_needs_1 : List UInt8 := [4, 160, 0, 32, 21, 4, 42, 4, 28, 29, 182, 0, 83, 180, 0, 87, 100, 42, 180, 0, 22, 180, 0, 109]
abbrev dktX7_needs_1 : List UInt8 := dkwX7_needs_1 ++ dktX7_needs_2
def dkwX7_needs_0 : List UInt8 := [42, 29, 4, 182, 0, 105, 154, 0, 5, 3, 172, 42, 3, 28, 29, 182, 0, 83, 180, 0, 87, 54, 4, 27]
abbrev dktX7_needs_0 : List UInt8 := dkwX7_needs_0 ++ dktX7_needs_1
theorem dksX7_needs_0 : cX7_needs.data.toList.drop 0 = dktX7_needs_0 := by decide +kernel
theorem dksX7_needs_1 : cX7_needs.data.toList.drop 24 = dktX7_needs_1 := dk_seg dksX7_needs_0 24 rfl rfl
theorem dksX7_needs_2 : cX7_needs.data.toList.drop 48 = dktX7_needs_2 := dk_seg dksX7_needs_1 24 rfl rfl
theorem dksX7_needs_3 : cX7_needs.data.toList.drop 71 = dktX7_needs_3 := dk_seg dksX7_needs_2 23 rfl rfl
theorem dksX7_needs_4 : cX7_needs.data.toList.drop 94 = dktX7_needs_4 := dk_seg dksX7_needs_3 23 rfl rfl
theorem dX7_needs_0 : decode cX7_needs 0 = .ok (.aload_n 0, 1) := dk_42 (dk_at dksX7_needs_0 0 rfl rfl)
theorem dX7_needs_1 : decode cX7_needs 1 = .ok (.iload_n 3, 1) := dk_29 (dk_at dksX7_needs_0 1 rfl rfl)
theorem dX7_needs_2 : decode cX7_needs 2 = .ok (.iconst 1, 1) := dk_4 (dk_at dksX7_needs_0 2 rfl rfl)
theorem dX7_needs_3 : decode cX7_needs 3 = .ok (.invokevirtual 105, 3) := dk_182 0 105 (dk_at dksX7_needs_0 3 rfl rfl)
theorem dX7_needs_6 : decode cX7_needs 6 = .ok (.ifCond .ne 5, 3) := dk_154 0 5 (dk_at dksX7_needs_0 6 rfl rfl)
theorem dX7_needs_9 : decode cX7_needs 9 = .ok (.iconst 0, 1) := dk_3 (dk_at dksX7_needs_0 9 rfl rfl)
theorem dX7_needs_10 : decode cX7_needs 10 = .ok (.ireturn, 1) := dk_172 (dk_at dksX7_needs_0 10 rfl rfl)
theorem dX7_needs_11 : decode cX7_needs 11 = .ok (.aload_n 0, 1) := dk_42 (dk_at dksX7_needs_0 11 rfl rfl)
theorem dX7_needs_12 : decode cX7_needs 12 = .ok (.iconst 0, 1) := dk_3 (dk_at dksX7_needs_0 12 rfl rfl)
theorem dX7_needs_13 : decode cX7_needs 13 = .ok (.iload_n 2, 1) := dk_28 (dk_at dksX7_needs_0 13 rfl rfl)
theorem dX7_needs_14 : decode cX7_needs 14 = .ok (.iload_n 3, 1) := dk_29 (dk_at dksX7_needs_0 14 rfl rfl)
theorem dX7_needs_15 : decode cX7_needs 15 = .ok (.invokevirtual 83, 3) := dk_182 0 83 (dk_at dksX7_needs_0 15 rfl rfl)
theorem dX7_needs_18 : decode cX7_needs 18 = .ok (.getfield 87, 3) := dk_180 0 87 (dk_at dksX7_needs_0 18 rfl rfl)
theorem dX7_needs_21 : decode cX7_needs 21 = .ok (.istore 4, 2) := dk_54 4 (dk_at dksX7_needs_0 21 rfl rfl)
theorem dX7_needs_23 : decode cX7_needs 23 = .ok (.iload_n 1, 1) := dk_27 (dk_at dksX7_needs_0 23 rfl rfl)
theorem dX7_needs_24 : decode cX7_needs 24 = .ok (.iconst 1, 1) := dk_4 (dk_at dksX7_needs_1 0 rfl rfl)
theorem dX7_needs_25 : decode cX7_needs 25 = .ok (.if_icmp .ne 32, 3) := dk_160 0 32 (dk_at dksX7_needs_1 1 rfl rfl)
theorem dX7_needs_28 : decode cX7_needs 28 = .ok (.iload 4, 2) := dk_21 4 (dk_at dksX7_needs_1 4 rfl rfl)
theorem dX7_needs_30 : decode cX7_needs 30 = .ok (.aload_n 0, 1) := dk_42 (dk_at dksX7_needs_1 6 rfl rfl)
theorem dX7_needs_31 : decode cX7_needs 31 = .ok (.iconst 1, 1) := dk_4 (dk_at dksX7_needs_1 7 rfl rfl)
theorem dX7_needs_32 : decode cX7_needs 32 = .ok (.iload_n 2, 1) := dk_28 (dk_at dksX7_needs_1 8 rfl rfl)
theorem dX7_needs_33 : decode cX7_needs 33 = .ok (.iload_n 3, 1) := dk_29 (dk_at dksX7_needs_1 9 rfl rfl)
theorem dX7_needs_34 : decode cX7_needs 34 = .ok (.invokevirtual 83, 3) := dk_182 0 83 (dk_at dksX7_needs_1 10 rfl rfl)
theorem dX7_needs_37 : decode cX7_needs 37 = .ok (.getfield 87, 3) := dk_180 0 87 (dk_at dksX7_needs_1 13 rfl rfl)
theorem dX7_needs_40 : decode cX7_needs 40 = .ok (.isub, 1) := dk_100 (dk_at dksX7_needs_1 16 rfl rfl)
theorem dX7_needs_41 : decode cX7_needs 41 = .ok (.aload_n 0, 1) := dk_42 (dk_at dksX7_needs_1 17 rfl rfl)
theorem dX7_needs_42 : decode cX7_needs 42 = .ok (.getfield 22, 3) := dk_180 0 22 (dk_at dksX7_needs_1 18 rfl rfl)
theorem dX7_needs_45 : decode cX7_needs 45 = .ok (.getfield 109, 3) := dk_180 0 109 (dk_at dksX7_needs_1 21 rfl rfl)
theorem dX7_needs_48 : decode cX7_needs 48 = .ok (.if_icmp .lt 7, 3) := dk_161 0 7 (dk_at dksX7_needs_2 0 rfl rfl)
theorem dX7_needs_51 : decode cX7_needs 51 = .ok (.iconst 1, 1) := dk_4 (dk_at dksX7_needs_2 3 rfl rfl)
theorem dX7_needs_52 : decode cX7_needs 52 = .ok (.goto 4, 3) := dk_167 0 4 (dk_at dksX7_needs_2 4 rfl rfl)
theorem dX7_needs_55 : decode cX7_needs 55 = .ok (.iconst 0, 1) := dk_3 (dk_at dksX7_needs_2 7 rfl rfl)
theorem dX7_needs_56 : decode cX7_needs 56 = .ok (.ireturn, 1) := dk_172 (dk_at dksX7_needs_2 8 rfl rfl)
theorem dX7_needs_57 : decode cX7_needs 57 = .ok (.iload 4, 2) := dk_21 4 (dk_at dksX7_needs_2 9 rfl rfl)
theorem dX7_needs_59 : decode cX7_needs 59 = .ok (.aload_n 0, 1) := dk_42 (dk_at dksX7_needs_2 11 rfl rfl)
theorem dX7_needs_60 : decode cX7_needs 60 = .ok (.getfield 22, 3) := dk_180 0 22 (dk_at dksX7_needs_2 12 rfl rfl)
theorem dX7_needs_63 : decode cX7_needs 63 = .ok (.getfield 90, 3) := dk_180 0 90 (dk_at dksX7_needs_2 15 rfl rfl)
theorem dX7_needs_66 : decode cX7_needs 66 = .ok (.isub, 1) := dk_100 (dk_at dksX7_needs_2 18 rfl rfl)
theorem dX7_needs_67 : decode cX7_needs 67 = .ok (.aload_n 0, 1) := dk_42 (dk_at dksX7_needs_2 19 rfl rfl)
theorem dX7_needs_68 : decode cX7_needs 68 = .ok (.iconst 1, 1) := dk_4 (dk_at dksX7_needs_2 20 rfl rfl)
theorem dX7_needs_69 : decode cX7_needs 69 = .ok (.iconst 0, 1) := dk_3 (dk_at dksX7_needs_2 21 rfl rfl)
theorem dX7_needs_70 : decode cX7_needs 70 = .ok (.iload_n 3, 1) := dk_29 (dk_at dksX7_needs_2 22 rfl rfl)
theorem dX7_needs_71 : decode cX7_needs 71 = .ok (.invokevirtual 83, 3) := dk_182 0 83 (dk_at dksX7_needs_3 0 rfl rfl)
theorem dX7_needs_74 : decode cX7_needs 74 = .ok (.getfield 87, 3) := dk_180 0 87 (dk_at dksX7_needs_3 3 rfl rfl)
theorem dX7_needs_77 : decode cX7_needs 77 = .ok (.aload_n 0, 1) := dk_42 (dk_at dksX7_needs_3 6 rfl rfl)
theorem dX7_needs_78 : decode cX7_needs 78 = .ok (.iconst 1, 1) := dk_4 (dk_at dksX7_needs_3 7 rfl rfl)
theorem dX7_needs_79 : decode cX7_needs 79 = .ok (.iconst 1, 1) := dk_4 (dk_at dksX7_needs_3 8 rfl rfl)
theorem dX7_needs_80 : decode cX7_needs 80 = .ok (.iload_n 3, 1) := dk_29 (dk_at dksX7_needs_3 9 rfl rfl)
theorem dX7_needs_81 : decode cX7_needs 81 = .ok (.invokevirtual 83, 3) := dk_182 0 83 (dk_at dksX7_needs_3 10 rfl rfl)
theorem dX7_needs_84 : decode cX7_needs 84 = .ok (.getfield 87, 3) := dk_180 0 87 (dk_at dksX7_needs_3 13 rfl rfl)
theorem dX7_needs_87 : decode cX7_needs 87 = .ok (.invokestatic 93, 3) := dk_184 0 93 (dk_at dksX7_needs_3 16 rfl rfl)
theorem dX7_needs_90 : decode cX7_needs 90 = .ok (.if_icmp .lt 7, 3) := dk_161 0 7 (dk_at dksX7_needs_3 19 rfl rfl)
theorem dX7_needs_93 : decode cX7_needs 93 = .ok (.iconst 1, 1) := dk_4 (dk_at dksX7_needs_3 22 rfl rfl)
theorem dX7_needs_94 : decode cX7_needs 94 = .ok (.goto 4, 3) := dk_167 0 4 (dk_at dksX7_needs_4 0 rfl rfl)
theorem dX7_needs_97 : decode cX7_needs 97 = .ok (.iconst 0, 1) := dk_3 (dk_at dksX7_needs_4 3 rfl rfl)
theorem dX7_needs_98 : decode cX7_needs 98 = .ok (.ireturn, 1) := dk_172 (dk_at dksX7_needs_4 4 rfl rfl)
abbrev cX7_areThrough : ByteArray := prog_10_method_7_code
def yX7_areThrough : MethodName := ⟨RX7, "areThrough", "(IZ)Z"⟩
def dkwX7_areThrough_2 : List UInt8 := [167, 255, 212, 4, 172]
abbrev dktX7_areThrough_2 : List UInt8 := dkwX7_areThrough_2 ++ []
def dkwX7_areThrough_1 : List UInt8 := [182, 0, 99, 153, 0, 16, 28, 153, 0, 14, 25, 4, 180, 0, 102, 5, 159, 0, 5, 3, 172, 132, 3, 1]
abbrev dktX7_areThrough_1 : List UInt8 := dkwX7_areThrough_1 ++ dktX7_areThrough_2
def dkwX7_areThrough_0 : List UInt8 := [3, 62, 29, 7, 162, 0, 45, 42, 29, 5, 108, 29, 5, 112, 27, 182, 0, 83, 58, 4, 25, 4]
abbrev dktX7_areThrough_0 : List UInt8 := dkwX7_areThrough_0 ++ dktX7_areThrough_1
theorem dksX7_areThrough_0 : cX7_areThrough.data.toList.drop 0 = dktX7_areThrough_0 := by decide +kernel
theorem dksX7_areThrough_1 : cX7_areThrough.data.toList.drop 22 = dktX7_areThrough_1 := dk_seg dksX7_areThrough_0 22 rfl rfl
theorem dksX7_areThrough_2 : cX7_areThrough.data.toList.drop 46 = dktX7_areThrough_2 := dk_seg dksX7_areThrough_1 24 rfl rfl
theorem dX7_areThrough_0 : decode cX7_areThrough 0 = .ok (.iconst 0, 1) := dk_3 (dk_at dksX7_areThrough_0 0 rfl rfl)
theorem dX7_areThrough_1 : decode cX7_areThrough 1 = .ok (.istore_n 3, 1) := dk_62 (dk_at dksX7_areThrough_0 1 rfl rfl)
theorem dX7_areThrough_2 : decode cX7_areThrough 2 = .ok (.iload_n 3, 1) := dk_29 (dk_at dksX7_areThrough_0 2 rfl rfl)
theorem dX7_areThrough_3 : decode cX7_areThrough 3 = .ok (.iconst 4, 1) := dk_7 (dk_at dksX7_areThrough_0 3 rfl rfl)
theorem dX7_areThrough_4 : decode cX7_areThrough 4 = .ok (.if_icmp .ge 45, 3) := dk_162 0 45 (dk_at dksX7_areThrough_0 4 rfl rfl)
theorem dX7_areThrough_7 : decode cX7_areThrough 7 = .ok (.aload_n 0, 1) := dk_42 (dk_at dksX7_areThrough_0 7 rfl rfl)
theorem dX7_areThrough_8 : decode cX7_areThrough 8 = .ok (.iload_n 3, 1) := dk_29 (dk_at dksX7_areThrough_0 8 rfl rfl)
theorem dX7_areThrough_9 : decode cX7_areThrough 9 = .ok (.iconst 2, 1) := dk_5 (dk_at dksX7_areThrough_0 9 rfl rfl)
theorem dX7_areThrough_10 : decode cX7_areThrough 10 = .ok (.idiv, 1) := dk_108 (dk_at dksX7_areThrough_0 10 rfl rfl)
theorem dX7_areThrough_11 : decode cX7_areThrough 11 = .ok (.iload_n 3, 1) := dk_29 (dk_at dksX7_areThrough_0 11 rfl rfl)
theorem dX7_areThrough_12 : decode cX7_areThrough 12 = .ok (.iconst 2, 1) := dk_5 (dk_at dksX7_areThrough_0 12 rfl rfl)
theorem dX7_areThrough_13 : decode cX7_areThrough 13 = .ok (.irem, 1) := dk_112 (dk_at dksX7_areThrough_0 13 rfl rfl)
theorem dX7_areThrough_14 : decode cX7_areThrough 14 = .ok (.iload_n 1, 1) := dk_27 (dk_at dksX7_areThrough_0 14 rfl rfl)
theorem dX7_areThrough_15 : decode cX7_areThrough 15 = .ok (.invokevirtual 83, 3) := dk_182 0 83 (dk_at dksX7_areThrough_0 15 rfl rfl)
theorem dX7_areThrough_18 : decode cX7_areThrough 18 = .ok (.astore 4, 2) := dk_58 4 (dk_at dksX7_areThrough_0 18 rfl rfl)
theorem dX7_areThrough_20 : decode cX7_areThrough 20 = .ok (.aload 4, 2) := dk_25 4 (dk_at dksX7_areThrough_0 20 rfl rfl)
theorem dX7_areThrough_22 : decode cX7_areThrough 22 = .ok (.invokevirtual 99, 3) := dk_182 0 99 (dk_at dksX7_areThrough_1 0 rfl rfl)
theorem dX7_areThrough_25 : decode cX7_areThrough 25 = .ok (.ifCond .eq 16, 3) := dk_153 0 16 (dk_at dksX7_areThrough_1 3 rfl rfl)
theorem dX7_areThrough_28 : decode cX7_areThrough 28 = .ok (.iload_n 2, 1) := dk_28 (dk_at dksX7_areThrough_1 6 rfl rfl)
theorem dX7_areThrough_29 : decode cX7_areThrough 29 = .ok (.ifCond .eq 14, 3) := dk_153 0 14 (dk_at dksX7_areThrough_1 7 rfl rfl)
theorem dX7_areThrough_32 : decode cX7_areThrough 32 = .ok (.aload 4, 2) := dk_25 4 (dk_at dksX7_areThrough_1 10 rfl rfl)
theorem dX7_areThrough_34 : decode cX7_areThrough 34 = .ok (.getfield 102, 3) := dk_180 0 102 (dk_at dksX7_areThrough_1 12 rfl rfl)
theorem dX7_areThrough_37 : decode cX7_areThrough 37 = .ok (.iconst 2, 1) := dk_5 (dk_at dksX7_areThrough_1 15 rfl rfl)
theorem dX7_areThrough_38 : decode cX7_areThrough 38 = .ok (.if_icmp .eq 5, 3) := dk_159 0 5 (dk_at dksX7_areThrough_1 16 rfl rfl)
theorem dX7_areThrough_41 : decode cX7_areThrough 41 = .ok (.iconst 0, 1) := dk_3 (dk_at dksX7_areThrough_1 19 rfl rfl)
theorem dX7_areThrough_42 : decode cX7_areThrough 42 = .ok (.ireturn, 1) := dk_172 (dk_at dksX7_areThrough_1 20 rfl rfl)
theorem dX7_areThrough_43 : decode cX7_areThrough 43 = .ok (.iinc 3 1, 3) := dk_132 3 1 (dk_at dksX7_areThrough_1 21 rfl rfl)
theorem dX7_areThrough_46 : decode cX7_areThrough 46 = .ok (.goto (-44), 3) := dk_167 255 212 (dk_at dksX7_areThrough_2 0 rfl rfl)
theorem dX7_areThrough_49 : decode cX7_areThrough 49 = .ok (.iconst 1, 1) := dk_4 (dk_at dksX7_areThrough_2 3 rfl rfl)
theorem dX7_areThrough_50 : decode cX7_areThrough 50 = .ok (.ireturn, 1) := dk_172 (dk_at dksX7_areThrough_2 4 rfl rfl)
abbrev cX7_plain : ByteArray := prog_10_method_4_code
def yX7_plain : MethodName := ⟨RX7, "plain", "(III)LMaskedEars$Task;"⟩
def dkwX7_plain_0 : List UInt8 := [42, 27, 28, 29, 3, 182, 0, 79, 176]
abbrev dktX7_plain_0 : List UInt8 := dkwX7_plain_0 ++ []
theorem dksX7_plain_0 : cX7_plain.data.toList.drop 0 = dktX7_plain_0 := by decide +kernel
theorem dX7_plain_0 : decode cX7_plain 0 = .ok (.aload_n 0, 1) := dk_42 (dk_at dksX7_plain_0 0 rfl rfl)
theorem dX7_plain_1 : decode cX7_plain 1 = .ok (.iload_n 1, 1) := dk_27 (dk_at dksX7_plain_0 1 rfl rfl)
theorem dX7_plain_2 : decode cX7_plain 2 = .ok (.iload_n 2, 1) := dk_28 (dk_at dksX7_plain_0 2 rfl rfl)
theorem dX7_plain_3 : decode cX7_plain 3 = .ok (.iload_n 3, 1) := dk_29 (dk_at dksX7_plain_0 3 rfl rfl)
theorem dX7_plain_4 : decode cX7_plain 4 = .ok (.iconst 0, 1) := dk_3 (dk_at dksX7_plain_0 4 rfl rfl)
theorem dX7_plain_5 : decode cX7_plain 5 = .ok (.invokevirtual 79, 3) := dk_182 0 79 (dk_at dksX7_plain_0 5 rfl rfl)
theorem dX7_plain_8 : decode cX7_plain 8 = .ok (.areturn, 1) := dk_176 (dk_at dksX7_plain_0 8 rfl rfl)
abbrev cX7_find : ByteArray := prog_10_method_3_code
def yX7_find : MethodName := ⟨RX7, "find", "(IIIZ)LMaskedEars$Task;"⟩
def dkwX7_find_3 : List UInt8 := [25, 6, 176, 167, 255, 194, 1, 176]
abbrev dktX7_find_3 : List UInt8 := dkwX7_find_3 ++ []
def dkwX7_find_2 : List UInt8 := [28, 160, 0, 25, 25, 6, 180, 0, 73, 29, 160, 0, 16, 25, 6, 180, 0, 76, 21, 4, 160, 0, 6]
abbrev dktX7_find_2 : List UInt8 := dkwX7_find_2 ++ dktX7_find_3
def dkwX7_find_1 : List UInt8 := [185, 0, 53, 1, 0, 192, 0, 31, 58, 6, 25, 6, 180, 0, 67, 27, 160, 0, 34, 25, 6, 180, 0, 70]
abbrev dktX7_find_1 : List UInt8 := dkwX7_find_1 ++ dktX7_find_2
def dkwX7_find_0 : List UInt8 := [42, 180, 0, 12, 182, 0, 43, 58, 5, 25, 5, 185, 0, 47, 1, 0, 153, 0, 58, 25, 5]
abbrev dktX7_find_0 : List UInt8 := dkwX7_find_0 ++ dktX7_find_1
theorem dksX7_find_0 : cX7_find.data.toList.drop 0 = dktX7_find_0 := by decide +kernel
theorem dksX7_find_1 : cX7_find.data.toList.drop 21 = dktX7_find_1 := dk_seg dksX7_find_0 21 rfl rfl
theorem dksX7_find_2 : cX7_find.data.toList.drop 45 = dktX7_find_2 := dk_seg dksX7_find_1 24 rfl rfl
theorem dksX7_find_3 : cX7_find.data.toList.drop 68 = dktX7_find_3 := dk_seg dksX7_find_2 23 rfl rfl
theorem dX7_find_0 : decode cX7_find 0 = .ok (.aload_n 0, 1) := dk_42 (dk_at dksX7_find_0 0 rfl rfl)
theorem dX7_find_1 : decode cX7_find 1 = .ok (.getfield 12, 3) := dk_180 0 12 (dk_at dksX7_find_0 1 rfl rfl)
theorem dX7_find_4 : decode cX7_find 4 = .ok (.invokevirtual 43, 3) := dk_182 0 43 (dk_at dksX7_find_0 4 rfl rfl)
theorem dX7_find_7 : decode cX7_find 7 = .ok (.astore 5, 2) := dk_58 5 (dk_at dksX7_find_0 7 rfl rfl)
theorem dX7_find_9 : decode cX7_find 9 = .ok (.aload 5, 2) := dk_25 5 (dk_at dksX7_find_0 9 rfl rfl)
theorem dX7_find_11 : decode cX7_find 11 = .ok (.invokeinterface 47 1, 5) := by decide +kernel
theorem dX7_find_16 : decode cX7_find 16 = .ok (.ifCond .eq 58, 3) := dk_153 0 58 (dk_at dksX7_find_0 16 rfl rfl)
theorem dX7_find_19 : decode cX7_find 19 = .ok (.aload 5, 2) := dk_25 5 (dk_at dksX7_find_0 19 rfl rfl)
theorem dX7_find_21 : decode cX7_find 21 = .ok (.invokeinterface 53 1, 5) := by decide +kernel
theorem dX7_find_26 : decode cX7_find 26 = .ok (.checkcast 31, 3) := dk_192 0 31 (dk_at dksX7_find_1 5 rfl rfl)
theorem dX7_find_29 : decode cX7_find 29 = .ok (.astore 6, 2) := dk_58 6 (dk_at dksX7_find_1 8 rfl rfl)
theorem dX7_find_31 : decode cX7_find 31 = .ok (.aload 6, 2) := dk_25 6 (dk_at dksX7_find_1 10 rfl rfl)
theorem dX7_find_33 : decode cX7_find 33 = .ok (.getfield 67, 3) := dk_180 0 67 (dk_at dksX7_find_1 12 rfl rfl)
theorem dX7_find_36 : decode cX7_find 36 = .ok (.iload_n 1, 1) := dk_27 (dk_at dksX7_find_1 15 rfl rfl)
theorem dX7_find_37 : decode cX7_find 37 = .ok (.if_icmp .ne 34, 3) := dk_160 0 34 (dk_at dksX7_find_1 16 rfl rfl)
theorem dX7_find_40 : decode cX7_find 40 = .ok (.aload 6, 2) := dk_25 6 (dk_at dksX7_find_1 19 rfl rfl)
theorem dX7_find_42 : decode cX7_find 42 = .ok (.getfield 70, 3) := dk_180 0 70 (dk_at dksX7_find_1 21 rfl rfl)
theorem dX7_find_45 : decode cX7_find 45 = .ok (.iload_n 2, 1) := dk_28 (dk_at dksX7_find_2 0 rfl rfl)
theorem dX7_find_46 : decode cX7_find 46 = .ok (.if_icmp .ne 25, 3) := dk_160 0 25 (dk_at dksX7_find_2 1 rfl rfl)
theorem dX7_find_49 : decode cX7_find 49 = .ok (.aload 6, 2) := dk_25 6 (dk_at dksX7_find_2 4 rfl rfl)
theorem dX7_find_51 : decode cX7_find 51 = .ok (.getfield 73, 3) := dk_180 0 73 (dk_at dksX7_find_2 6 rfl rfl)
theorem dX7_find_54 : decode cX7_find 54 = .ok (.iload_n 3, 1) := dk_29 (dk_at dksX7_find_2 9 rfl rfl)
theorem dX7_find_55 : decode cX7_find 55 = .ok (.if_icmp .ne 16, 3) := dk_160 0 16 (dk_at dksX7_find_2 10 rfl rfl)
theorem dX7_find_58 : decode cX7_find 58 = .ok (.aload 6, 2) := dk_25 6 (dk_at dksX7_find_2 13 rfl rfl)
theorem dX7_find_60 : decode cX7_find 60 = .ok (.getfield 76, 3) := dk_180 0 76 (dk_at dksX7_find_2 15 rfl rfl)
theorem dX7_find_63 : decode cX7_find 63 = .ok (.iload 4, 2) := dk_21 4 (dk_at dksX7_find_2 18 rfl rfl)
theorem dX7_find_65 : decode cX7_find 65 = .ok (.if_icmp .ne 6, 3) := dk_160 0 6 (dk_at dksX7_find_2 20 rfl rfl)
theorem dX7_find_68 : decode cX7_find 68 = .ok (.aload 6, 2) := dk_25 6 (dk_at dksX7_find_3 0 rfl rfl)
theorem dX7_find_70 : decode cX7_find 70 = .ok (.areturn, 1) := dk_176 (dk_at dksX7_find_3 2 rfl rfl)
theorem dX7_find_71 : decode cX7_find 71 = .ok (.goto (-62), 3) := dk_167 255 194 (dk_at dksX7_find_3 3 rfl rfl)
theorem dX7_find_74 : decode cX7_find 74 = .ok (.aconst_null, 1) := dk_1 (dk_at dksX7_find_3 6 rfl rfl)
theorem dX7_find_75 : decode cX7_find 75 = .ok (.areturn, 1) := dk_176 (dk_at dksX7_find_3 7 rfl rfl)
abbrev cX7_begins : ByteArray := prog_10_method_12_code
def yX7_begins : MethodName := ⟨RX7, "begins", "(I)Z"⟩
def dkwX7_begins_1 : List UInt8 := [180, 0, 12, 27, 182, 0, 120, 192, 0, 31, 44, 182, 0, 139, 181, 0, 102, 42, 2, 181, 0, 18, 3, 172]
abbrev dktX7_begins_1 : List UInt8 := dkwX7_begins_1 ++ []
def dkwX7_begins_0 : List UInt8 := [42, 180, 0, 12, 27, 182, 0, 120, 192, 0, 31, 42, 182, 0, 134, 42, 27, 181, 0, 18, 4, 172, 77, 42]
abbrev dktX7_begins_0 : List UInt8 := dkwX7_begins_0 ++ dktX7_begins_1
theorem dksX7_begins_0 : cX7_begins.data.toList.drop 0 = dktX7_begins_0 := by decide +kernel
theorem dksX7_begins_1 : cX7_begins.data.toList.drop 24 = dktX7_begins_1 := dk_seg dksX7_begins_0 24 rfl rfl
theorem dX7_begins_0 : decode cX7_begins 0 = .ok (.aload_n 0, 1) := dk_42 (dk_at dksX7_begins_0 0 rfl rfl)
theorem dX7_begins_1 : decode cX7_begins 1 = .ok (.getfield 12, 3) := dk_180 0 12 (dk_at dksX7_begins_0 1 rfl rfl)
theorem dX7_begins_4 : decode cX7_begins 4 = .ok (.iload_n 1, 1) := dk_27 (dk_at dksX7_begins_0 4 rfl rfl)
theorem dX7_begins_5 : decode cX7_begins 5 = .ok (.invokevirtual 120, 3) := dk_182 0 120 (dk_at dksX7_begins_0 5 rfl rfl)
theorem dX7_begins_8 : decode cX7_begins 8 = .ok (.checkcast 31, 3) := dk_192 0 31 (dk_at dksX7_begins_0 8 rfl rfl)
theorem dX7_begins_11 : decode cX7_begins 11 = .ok (.aload_n 0, 1) := dk_42 (dk_at dksX7_begins_0 11 rfl rfl)
theorem dX7_begins_12 : decode cX7_begins 12 = .ok (.invokevirtual 134, 3) := dk_182 0 134 (dk_at dksX7_begins_0 12 rfl rfl)
theorem dX7_begins_15 : decode cX7_begins 15 = .ok (.aload_n 0, 1) := dk_42 (dk_at dksX7_begins_0 15 rfl rfl)
theorem dX7_begins_16 : decode cX7_begins 16 = .ok (.iload_n 1, 1) := dk_27 (dk_at dksX7_begins_0 16 rfl rfl)
theorem dX7_begins_17 : decode cX7_begins 17 = .ok (.putfield 18, 3) := dk_181 0 18 (dk_at dksX7_begins_0 17 rfl rfl)
theorem dX7_begins_20 : decode cX7_begins 20 = .ok (.iconst 1, 1) := dk_4 (dk_at dksX7_begins_0 20 rfl rfl)
theorem dX7_begins_21 : decode cX7_begins 21 = .ok (.ireturn, 1) := dk_172 (dk_at dksX7_begins_0 21 rfl rfl)
theorem dX7_begins_22 : decode cX7_begins 22 = .ok (.astore_n 2, 1) := dk_77 (dk_at dksX7_begins_0 22 rfl rfl)
theorem dX7_begins_23 : decode cX7_begins 23 = .ok (.aload_n 0, 1) := dk_42 (dk_at dksX7_begins_0 23 rfl rfl)
theorem dX7_begins_24 : decode cX7_begins 24 = .ok (.getfield 12, 3) := dk_180 0 12 (dk_at dksX7_begins_1 0 rfl rfl)
theorem dX7_begins_27 : decode cX7_begins 27 = .ok (.iload_n 1, 1) := dk_27 (dk_at dksX7_begins_1 3 rfl rfl)
theorem dX7_begins_28 : decode cX7_begins 28 = .ok (.invokevirtual 120, 3) := dk_182 0 120 (dk_at dksX7_begins_1 4 rfl rfl)
theorem dX7_begins_31 : decode cX7_begins 31 = .ok (.checkcast 31, 3) := dk_192 0 31 (dk_at dksX7_begins_1 7 rfl rfl)
theorem dX7_begins_34 : decode cX7_begins 34 = .ok (.aload_n 2, 1) := dk_44 (dk_at dksX7_begins_1 10 rfl rfl)
theorem dX7_begins_35 : decode cX7_begins 35 = .ok (.invokevirtual 139, 3) := dk_182 0 139 (dk_at dksX7_begins_1 11 rfl rfl)
theorem dX7_begins_38 : decode cX7_begins 38 = .ok (.putfield 102, 3) := dk_181 0 102 (dk_at dksX7_begins_1 14 rfl rfl)
theorem dX7_begins_41 : decode cX7_begins 41 = .ok (.aload_n 0, 1) := dk_42 (dk_at dksX7_begins_1 17 rfl rfl)
theorem dX7_begins_42 : decode cX7_begins 42 = .ok (.iconst (-1), 1) := dk_2 (dk_at dksX7_begins_1 18 rfl rfl)
theorem dX7_begins_43 : decode cX7_begins 43 = .ok (.putfield 18, 3) := dk_181 0 18 (dk_at dksX7_begins_1 19 rfl rfl)
theorem dX7_begins_46 : decode cX7_begins 46 = .ok (.iconst 0, 1) := dk_3 (dk_at dksX7_begins_1 22 rfl rfl)
theorem dX7_begins_47 : decode cX7_begins 47 = .ok (.ireturn, 1) := dk_172 (dk_at dksX7_begins_1 23 rfl rfl)
abbrev cX7_first : ByteArray := prog_10_method_5_code
def yX7_first : MethodName := ⟨RX7, "first", "(II)I"⟩
def dkwX7_first_0 : List UInt8 := [42, 3, 4, 27, 100, 28, 182, 0, 83, 180, 0, 87, 5, 96, 172]
abbrev dktX7_first_0 : List UInt8 := dkwX7_first_0 ++ []
theorem dksX7_first_0 : cX7_first.data.toList.drop 0 = dktX7_first_0 := by decide +kernel
theorem dX7_first_0 : decode cX7_first 0 = .ok (.aload_n 0, 1) := dk_42 (dk_at dksX7_first_0 0 rfl rfl)
theorem dX7_first_1 : decode cX7_first 1 = .ok (.iconst 0, 1) := dk_3 (dk_at dksX7_first_0 1 rfl rfl)
theorem dX7_first_2 : decode cX7_first 2 = .ok (.iconst 1, 1) := dk_4 (dk_at dksX7_first_0 2 rfl rfl)
theorem dX7_first_3 : decode cX7_first 3 = .ok (.iload_n 1, 1) := dk_27 (dk_at dksX7_first_0 3 rfl rfl)
theorem dX7_first_4 : decode cX7_first 4 = .ok (.isub, 1) := dk_100 (dk_at dksX7_first_0 4 rfl rfl)
theorem dX7_first_5 : decode cX7_first 5 = .ok (.iload_n 2, 1) := dk_28 (dk_at dksX7_first_0 5 rfl rfl)
theorem dX7_first_6 : decode cX7_first 6 = .ok (.invokevirtual 83, 3) := dk_182 0 83 (dk_at dksX7_first_0 6 rfl rfl)
theorem dX7_first_9 : decode cX7_first 9 = .ok (.getfield 87, 3) := dk_180 0 87 (dk_at dksX7_first_0 9 rfl rfl)
theorem dX7_first_12 : decode cX7_first 12 = .ok (.iconst 2, 1) := dk_5 (dk_at dksX7_first_0 12 rfl rfl)
theorem dX7_first_13 : decode cX7_first 13 = .ok (.iadd, 1) := dk_96 (dk_at dksX7_first_0 13 rfl rfl)
theorem dX7_first_14 : decode cX7_first 14 = .ok (.ireturn, 1) := dk_172 (dk_at dksX7_first_0 14 rfl rfl)
abbrev cX7_bound : ByteArray := prog_10_method_6_code
def yX7_bound : MethodName := ⟨RX7, "bound", "(II)I"⟩
def dkwX7_bound_1 : List UInt8 := [184, 0, 93, 172]
abbrev dktX7_bound_1 : List UInt8 := dkwX7_bound_1 ++ []
def dkwX7_bound_0 : List UInt8 := [16, 24, 42, 4, 27, 28, 182, 0, 83, 180, 0, 87, 42, 180, 0, 22, 180, 0, 90, 96, 4, 100]
abbrev dktX7_bound_0 : List UInt8 := dkwX7_bound_0 ++ dktX7_bound_1
theorem dksX7_bound_0 : cX7_bound.data.toList.drop 0 = dktX7_bound_0 := by decide +kernel
theorem dksX7_bound_1 : cX7_bound.data.toList.drop 22 = dktX7_bound_1 := dk_seg dksX7_bound_0 22 rfl rfl
theorem dX7_bound_0 : decode cX7_bound 0 = .ok (.bipush 24, 2) := dk_16 24 (dk_at dksX7_bound_0 0 rfl rfl)
theorem dX7_bound_2 : decode cX7_bound 2 = .ok (.aload_n 0, 1) := dk_42 (dk_at dksX7_bound_0 2 rfl rfl)
theorem dX7_bound_3 : decode cX7_bound 3 = .ok (.iconst 1, 1) := dk_4 (dk_at dksX7_bound_0 3 rfl rfl)
theorem dX7_bound_4 : decode cX7_bound 4 = .ok (.iload_n 1, 1) := dk_27 (dk_at dksX7_bound_0 4 rfl rfl)
theorem dX7_bound_5 : decode cX7_bound 5 = .ok (.iload_n 2, 1) := dk_28 (dk_at dksX7_bound_0 5 rfl rfl)
theorem dX7_bound_6 : decode cX7_bound 6 = .ok (.invokevirtual 83, 3) := dk_182 0 83 (dk_at dksX7_bound_0 6 rfl rfl)
theorem dX7_bound_9 : decode cX7_bound 9 = .ok (.getfield 87, 3) := dk_180 0 87 (dk_at dksX7_bound_0 9 rfl rfl)
theorem dX7_bound_12 : decode cX7_bound 12 = .ok (.aload_n 0, 1) := dk_42 (dk_at dksX7_bound_0 12 rfl rfl)
theorem dX7_bound_13 : decode cX7_bound 13 = .ok (.getfield 22, 3) := dk_180 0 22 (dk_at dksX7_bound_0 13 rfl rfl)
theorem dX7_bound_16 : decode cX7_bound 16 = .ok (.getfield 90, 3) := dk_180 0 90 (dk_at dksX7_bound_0 16 rfl rfl)
theorem dX7_bound_19 : decode cX7_bound 19 = .ok (.iadd, 1) := dk_96 (dk_at dksX7_bound_0 19 rfl rfl)
theorem dX7_bound_20 : decode cX7_bound 20 = .ok (.iconst 1, 1) := dk_4 (dk_at dksX7_bound_0 20 rfl rfl)
theorem dX7_bound_21 : decode cX7_bound 21 = .ok (.isub, 1) := dk_100 (dk_at dksX7_bound_0 21 rfl rfl)
theorem dX7_bound_22 : decode cX7_bound 22 = .ok (.invokestatic 93, 3) := dk_184 0 93 (dk_at dksX7_bound_1 0 rfl rfl)
theorem dX7_bound_25 : decode cX7_bound 25 = .ok (.ireturn, 1) := dk_172 (dk_at dksX7_bound_1 3 rfl rfl)
abbrev cX7_through : ByteArray := prog_10_method_17_code
def yX7_through : MethodName := ⟨RX7, "through", "()I"⟩
def dkwX7_through_1 : List UInt8 := [185, 0, 53, 1, 0, 192, 0, 31, 78, 45, 182, 0, 99, 153, 0, 6, 132, 1, 1, 167, 255, 227, 27, 172]
abbrev dktX7_through_1 : List UInt8 := dkwX7_through_1 ++ []
def dkwX7_through_0 : List UInt8 := [3, 60, 42, 180, 0, 12, 182, 0, 43, 77, 44, 185, 0, 47, 1, 0, 153, 0, 26, 44]
abbrev dktX7_through_0 : List UInt8 := dkwX7_through_0 ++ dktX7_through_1
theorem dksX7_through_0 : cX7_through.data.toList.drop 0 = dktX7_through_0 := by decide +kernel
theorem dksX7_through_1 : cX7_through.data.toList.drop 20 = dktX7_through_1 := dk_seg dksX7_through_0 20 rfl rfl
theorem dX7_through_0 : decode cX7_through 0 = .ok (.iconst 0, 1) := dk_3 (dk_at dksX7_through_0 0 rfl rfl)
theorem dX7_through_1 : decode cX7_through 1 = .ok (.istore_n 1, 1) := dk_60 (dk_at dksX7_through_0 1 rfl rfl)
theorem dX7_through_2 : decode cX7_through 2 = .ok (.aload_n 0, 1) := dk_42 (dk_at dksX7_through_0 2 rfl rfl)
theorem dX7_through_3 : decode cX7_through 3 = .ok (.getfield 12, 3) := dk_180 0 12 (dk_at dksX7_through_0 3 rfl rfl)
theorem dX7_through_6 : decode cX7_through 6 = .ok (.invokevirtual 43, 3) := dk_182 0 43 (dk_at dksX7_through_0 6 rfl rfl)
theorem dX7_through_9 : decode cX7_through 9 = .ok (.astore_n 2, 1) := dk_77 (dk_at dksX7_through_0 9 rfl rfl)
theorem dX7_through_10 : decode cX7_through 10 = .ok (.aload_n 2, 1) := dk_44 (dk_at dksX7_through_0 10 rfl rfl)
theorem dX7_through_11 : decode cX7_through 11 = .ok (.invokeinterface 47 1, 5) := by decide +kernel
theorem dX7_through_16 : decode cX7_through 16 = .ok (.ifCond .eq 26, 3) := dk_153 0 26 (dk_at dksX7_through_0 16 rfl rfl)
theorem dX7_through_19 : decode cX7_through 19 = .ok (.aload_n 2, 1) := dk_44 (dk_at dksX7_through_0 19 rfl rfl)
theorem dX7_through_20 : decode cX7_through 20 = .ok (.invokeinterface 53 1, 5) := by decide +kernel
theorem dX7_through_25 : decode cX7_through 25 = .ok (.checkcast 31, 3) := dk_192 0 31 (dk_at dksX7_through_1 5 rfl rfl)
theorem dX7_through_28 : decode cX7_through 28 = .ok (.astore_n 3, 1) := dk_78 (dk_at dksX7_through_1 8 rfl rfl)
theorem dX7_through_29 : decode cX7_through 29 = .ok (.aload_n 3, 1) := dk_45 (dk_at dksX7_through_1 9 rfl rfl)
theorem dX7_through_30 : decode cX7_through 30 = .ok (.invokevirtual 99, 3) := dk_182 0 99 (dk_at dksX7_through_1 10 rfl rfl)
theorem dX7_through_33 : decode cX7_through 33 = .ok (.ifCond .eq 6, 3) := dk_153 0 6 (dk_at dksX7_through_1 13 rfl rfl)
theorem dX7_through_36 : decode cX7_through 36 = .ok (.iinc 1 1, 3) := dk_132 1 1 (dk_at dksX7_through_1 16 rfl rfl)
theorem dX7_through_39 : decode cX7_through 39 = .ok (.goto (-29), 3) := dk_167 255 227 (dk_at dksX7_through_1 19 rfl rfl)
theorem dX7_through_42 : decode cX7_through 42 = .ok (.iload_n 1, 1) := dk_27 (dk_at dksX7_through_1 22 rfl rfl)
theorem dX7_through_43 : decode cX7_through 43 = .ok (.ireturn, 1) := dk_172 (dk_at dksX7_through_1 23 rfl rfl)
abbrev cX7_takes : ByteArray := prog_10_method_14_code
def yX7_takes : MethodName := ⟨RX7, "takes", "(Z)I"⟩
def dkwX7_takes_2 : List UInt8 := [45, 182, 0, 139, 181, 0, 102, 42, 182, 0, 145, 172]
abbrev dktX7_takes_2 : List UInt8 := dkwX7_takes_2 ++ []
def dkwX7_takes_1 : List UInt8 := [77, 44, 42, 27, 182, 0, 141, 62, 29, 5, 160, 0, 10, 42, 182, 0, 145, 167, 0, 4, 29, 172, 78, 44]
abbrev dktX7_takes_1 : List UInt8 := dkwX7_takes_1 ++ dktX7_takes_2
def dkwX7_takes_0 : List UInt8 := [42, 89, 180, 0, 60, 4, 96, 181, 0, 60, 42, 180, 0, 12, 42, 180, 0, 18, 182, 0, 120, 192, 0, 31]
abbrev dktX7_takes_0 : List UInt8 := dkwX7_takes_0 ++ dktX7_takes_1
theorem dksX7_takes_0 : cX7_takes.data.toList.drop 0 = dktX7_takes_0 := by decide +kernel
theorem dksX7_takes_1 : cX7_takes.data.toList.drop 24 = dktX7_takes_1 := dk_seg dksX7_takes_0 24 rfl rfl
theorem dksX7_takes_2 : cX7_takes.data.toList.drop 48 = dktX7_takes_2 := dk_seg dksX7_takes_1 24 rfl rfl
theorem dX7_takes_0 : decode cX7_takes 0 = .ok (.aload_n 0, 1) := dk_42 (dk_at dksX7_takes_0 0 rfl rfl)
theorem dX7_takes_1 : decode cX7_takes 1 = .ok (.dup, 1) := dk_89 (dk_at dksX7_takes_0 1 rfl rfl)
theorem dX7_takes_2 : decode cX7_takes 2 = .ok (.getfield 60, 3) := dk_180 0 60 (dk_at dksX7_takes_0 2 rfl rfl)
theorem dX7_takes_5 : decode cX7_takes 5 = .ok (.iconst 1, 1) := dk_4 (dk_at dksX7_takes_0 5 rfl rfl)
theorem dX7_takes_6 : decode cX7_takes 6 = .ok (.iadd, 1) := dk_96 (dk_at dksX7_takes_0 6 rfl rfl)
theorem dX7_takes_7 : decode cX7_takes 7 = .ok (.putfield 60, 3) := dk_181 0 60 (dk_at dksX7_takes_0 7 rfl rfl)
theorem dX7_takes_10 : decode cX7_takes 10 = .ok (.aload_n 0, 1) := dk_42 (dk_at dksX7_takes_0 10 rfl rfl)
theorem dX7_takes_11 : decode cX7_takes 11 = .ok (.getfield 12, 3) := dk_180 0 12 (dk_at dksX7_takes_0 11 rfl rfl)
theorem dX7_takes_14 : decode cX7_takes 14 = .ok (.aload_n 0, 1) := dk_42 (dk_at dksX7_takes_0 14 rfl rfl)
theorem dX7_takes_15 : decode cX7_takes 15 = .ok (.getfield 18, 3) := dk_180 0 18 (dk_at dksX7_takes_0 15 rfl rfl)
theorem dX7_takes_18 : decode cX7_takes 18 = .ok (.invokevirtual 120, 3) := dk_182 0 120 (dk_at dksX7_takes_0 18 rfl rfl)
theorem dX7_takes_21 : decode cX7_takes 21 = .ok (.checkcast 31, 3) := dk_192 0 31 (dk_at dksX7_takes_0 21 rfl rfl)
theorem dX7_takes_24 : decode cX7_takes 24 = .ok (.astore_n 2, 1) := dk_77 (dk_at dksX7_takes_1 0 rfl rfl)
theorem dX7_takes_25 : decode cX7_takes 25 = .ok (.aload_n 2, 1) := dk_44 (dk_at dksX7_takes_1 1 rfl rfl)
theorem dX7_takes_26 : decode cX7_takes 26 = .ok (.aload_n 0, 1) := dk_42 (dk_at dksX7_takes_1 2 rfl rfl)
theorem dX7_takes_27 : decode cX7_takes 27 = .ok (.iload_n 1, 1) := dk_27 (dk_at dksX7_takes_1 3 rfl rfl)
theorem dX7_takes_28 : decode cX7_takes 28 = .ok (.invokevirtual 141, 3) := dk_182 0 141 (dk_at dksX7_takes_1 4 rfl rfl)
theorem dX7_takes_31 : decode cX7_takes 31 = .ok (.istore_n 3, 1) := dk_62 (dk_at dksX7_takes_1 7 rfl rfl)
theorem dX7_takes_32 : decode cX7_takes 32 = .ok (.iload_n 3, 1) := dk_29 (dk_at dksX7_takes_1 8 rfl rfl)
theorem dX7_takes_33 : decode cX7_takes 33 = .ok (.iconst 2, 1) := dk_5 (dk_at dksX7_takes_1 9 rfl rfl)
theorem dX7_takes_34 : decode cX7_takes 34 = .ok (.if_icmp .ne 10, 3) := dk_160 0 10 (dk_at dksX7_takes_1 10 rfl rfl)
theorem dX7_takes_37 : decode cX7_takes 37 = .ok (.aload_n 0, 1) := dk_42 (dk_at dksX7_takes_1 13 rfl rfl)
theorem dX7_takes_38 : decode cX7_takes 38 = .ok (.invokevirtual 145, 3) := dk_182 0 145 (dk_at dksX7_takes_1 14 rfl rfl)
theorem dX7_takes_41 : decode cX7_takes 41 = .ok (.goto 4, 3) := dk_167 0 4 (dk_at dksX7_takes_1 17 rfl rfl)
theorem dX7_takes_44 : decode cX7_takes 44 = .ok (.iload_n 3, 1) := dk_29 (dk_at dksX7_takes_1 20 rfl rfl)
theorem dX7_takes_45 : decode cX7_takes 45 = .ok (.ireturn, 1) := dk_172 (dk_at dksX7_takes_1 21 rfl rfl)
theorem dX7_takes_46 : decode cX7_takes 46 = .ok (.astore_n 3, 1) := dk_78 (dk_at dksX7_takes_1 22 rfl rfl)
theorem dX7_takes_47 : decode cX7_takes 47 = .ok (.aload_n 2, 1) := dk_44 (dk_at dksX7_takes_1 23 rfl rfl)
theorem dX7_takes_48 : decode cX7_takes 48 = .ok (.aload_n 3, 1) := dk_45 (dk_at dksX7_takes_2 0 rfl rfl)
theorem dX7_takes_49 : decode cX7_takes 49 = .ok (.invokevirtual 139, 3) := dk_182 0 139 (dk_at dksX7_takes_2 1 rfl rfl)
theorem dX7_takes_52 : decode cX7_takes 52 = .ok (.putfield 102, 3) := dk_181 0 102 (dk_at dksX7_takes_2 4 rfl rfl)
theorem dX7_takes_55 : decode cX7_takes 55 = .ok (.aload_n 0, 1) := dk_42 (dk_at dksX7_takes_2 7 rfl rfl)
theorem dX7_takes_56 : decode cX7_takes 56 = .ok (.invokevirtual 145, 3) := dk_182 0 145 (dk_at dksX7_takes_2 8 rfl rfl)
theorem dX7_takes_59 : decode cX7_takes 59 = .ok (.ireturn, 1) := dk_172 (dk_at dksX7_takes_2 11 rfl rfl)
abbrev cX7_ended : ByteArray := prog_10_method_13_code
def yX7_ended : MethodName := ⟨RX7, "ended", "()I"⟩
def dkwX7_ended_0 : List UInt8 := [42, 182, 0, 40, 42, 180, 0, 18, 2, 160, 0, 7, 6, 167, 0, 4, 5, 172]
abbrev dktX7_ended_0 : List UInt8 := dkwX7_ended_0 ++ []
theorem dksX7_ended_0 : cX7_ended.data.toList.drop 0 = dktX7_ended_0 := by decide +kernel
theorem dX7_ended_0 : decode cX7_ended 0 = .ok (.aload_n 0, 1) := dk_42 (dk_at dksX7_ended_0 0 rfl rfl)
theorem dX7_ended_1 : decode cX7_ended 1 = .ok (.invokevirtual 40, 3) := dk_182 0 40 (dk_at dksX7_ended_0 1 rfl rfl)
theorem dX7_ended_4 : decode cX7_ended 4 = .ok (.aload_n 0, 1) := dk_42 (dk_at dksX7_ended_0 4 rfl rfl)
theorem dX7_ended_5 : decode cX7_ended 5 = .ok (.getfield 18, 3) := dk_180 0 18 (dk_at dksX7_ended_0 5 rfl rfl)
theorem dX7_ended_8 : decode cX7_ended 8 = .ok (.iconst (-1), 1) := dk_2 (dk_at dksX7_ended_0 8 rfl rfl)
theorem dX7_ended_9 : decode cX7_ended 9 = .ok (.if_icmp .ne 7, 3) := dk_160 0 7 (dk_at dksX7_ended_0 9 rfl rfl)
theorem dX7_ended_12 : decode cX7_ended 12 = .ok (.iconst 3, 1) := dk_6 (dk_at dksX7_ended_0 12 rfl rfl)
theorem dX7_ended_13 : decode cX7_ended 13 = .ok (.goto 4, 3) := dk_167 0 4 (dk_at dksX7_ended_0 13 rfl rfl)
theorem dX7_ended_16 : decode cX7_ended 16 = .ok (.iconst 2, 1) := dk_5 (dk_at dksX7_ended_0 16 rfl rfl)
theorem dX7_ended_17 : decode cX7_ended 17 = .ok (.ireturn, 1) := dk_172 (dk_at dksX7_ended_0 17 rfl rfl)
abbrev cX7_hears : ByteArray := prog_10_method_16_code
def yX7_hears : MethodName := ⟨RX7, "hears", "()Z"⟩
def dkwX7_hears_1 : List UInt8 := [180, 0, 70, 43, 180, 0, 73, 43, 180, 0, 151, 180, 0, 155, 43, 180, 0, 160, 182, 0, 163, 172]
abbrev dktX7_hears_1 : List UInt8 := dkwX7_hears_1 ++ []
def dkwX7_hears_0 : List UInt8 := [42, 180, 0, 12, 42, 180, 0, 18, 182, 0, 120, 192, 0, 31, 76, 42, 180, 0, 22, 43, 180, 0, 67, 43]
abbrev dktX7_hears_0 : List UInt8 := dkwX7_hears_0 ++ dktX7_hears_1
theorem dksX7_hears_0 : cX7_hears.data.toList.drop 0 = dktX7_hears_0 := by decide +kernel
theorem dksX7_hears_1 : cX7_hears.data.toList.drop 24 = dktX7_hears_1 := dk_seg dksX7_hears_0 24 rfl rfl
theorem dX7_hears_0 : decode cX7_hears 0 = .ok (.aload_n 0, 1) := dk_42 (dk_at dksX7_hears_0 0 rfl rfl)
theorem dX7_hears_1 : decode cX7_hears 1 = .ok (.getfield 12, 3) := dk_180 0 12 (dk_at dksX7_hears_0 1 rfl rfl)
theorem dX7_hears_4 : decode cX7_hears 4 = .ok (.aload_n 0, 1) := dk_42 (dk_at dksX7_hears_0 4 rfl rfl)
theorem dX7_hears_5 : decode cX7_hears 5 = .ok (.getfield 18, 3) := dk_180 0 18 (dk_at dksX7_hears_0 5 rfl rfl)
theorem dX7_hears_8 : decode cX7_hears 8 = .ok (.invokevirtual 120, 3) := dk_182 0 120 (dk_at dksX7_hears_0 8 rfl rfl)
theorem dX7_hears_11 : decode cX7_hears 11 = .ok (.checkcast 31, 3) := dk_192 0 31 (dk_at dksX7_hears_0 11 rfl rfl)
theorem dX7_hears_14 : decode cX7_hears 14 = .ok (.astore_n 1, 1) := dk_76 (dk_at dksX7_hears_0 14 rfl rfl)
theorem dX7_hears_15 : decode cX7_hears 15 = .ok (.aload_n 0, 1) := dk_42 (dk_at dksX7_hears_0 15 rfl rfl)
theorem dX7_hears_16 : decode cX7_hears 16 = .ok (.getfield 22, 3) := dk_180 0 22 (dk_at dksX7_hears_0 16 rfl rfl)
theorem dX7_hears_19 : decode cX7_hears 19 = .ok (.aload_n 1, 1) := dk_43 (dk_at dksX7_hears_0 19 rfl rfl)
theorem dX7_hears_20 : decode cX7_hears 20 = .ok (.getfield 67, 3) := dk_180 0 67 (dk_at dksX7_hears_0 20 rfl rfl)
theorem dX7_hears_23 : decode cX7_hears 23 = .ok (.aload_n 1, 1) := dk_43 (dk_at dksX7_hears_0 23 rfl rfl)
theorem dX7_hears_24 : decode cX7_hears 24 = .ok (.getfield 70, 3) := dk_180 0 70 (dk_at dksX7_hears_1 0 rfl rfl)
theorem dX7_hears_27 : decode cX7_hears 27 = .ok (.aload_n 1, 1) := dk_43 (dk_at dksX7_hears_1 3 rfl rfl)
theorem dX7_hears_28 : decode cX7_hears 28 = .ok (.getfield 73, 3) := dk_180 0 73 (dk_at dksX7_hears_1 4 rfl rfl)
theorem dX7_hears_31 : decode cX7_hears 31 = .ok (.aload_n 1, 1) := dk_43 (dk_at dksX7_hears_1 7 rfl rfl)
theorem dX7_hears_32 : decode cX7_hears 32 = .ok (.getfield 151, 3) := dk_180 0 151 (dk_at dksX7_hears_1 8 rfl rfl)
theorem dX7_hears_35 : decode cX7_hears 35 = .ok (.getfield 155, 3) := dk_180 0 155 (dk_at dksX7_hears_1 11 rfl rfl)
theorem dX7_hears_38 : decode cX7_hears 38 = .ok (.aload_n 1, 1) := dk_43 (dk_at dksX7_hears_1 14 rfl rfl)
theorem dX7_hears_39 : decode cX7_hears 39 = .ok (.getfield 160, 3) := dk_180 0 160 (dk_at dksX7_hears_1 15 rfl rfl)
theorem dX7_hears_42 : decode cX7_hears 42 = .ok (.invokevirtual 163, 3) := dk_182 0 163 (dk_at dksX7_hears_1 18 rfl rfl)
theorem dX7_hears_45 : decode cX7_hears 45 = .ok (.ireturn, 1) := dk_172 (dk_at dksX7_hears_1 21 rfl rfl)
abbrev cX7_gives : ByteArray := prog_10_method_15_code
def yX7_gives : MethodName := ⟨RX7, "gives", "()I"⟩
def dkwX7_gives_1 : List UInt8 := [42, 182, 0, 145, 172]
abbrev dktX7_gives_1 : List UInt8 := dkwX7_gives_1 ++ []
def dkwX7_gives_0 : List UInt8 := [42, 180, 0, 12, 42, 180, 0, 18, 182, 0, 120, 192, 0, 31, 76, 43, 182, 0, 148, 43, 7, 181, 0, 102]
abbrev dktX7_gives_0 : List UInt8 := dkwX7_gives_0 ++ dktX7_gives_1
theorem dksX7_gives_0 : cX7_gives.data.toList.drop 0 = dktX7_gives_0 := by decide +kernel
theorem dksX7_gives_1 : cX7_gives.data.toList.drop 24 = dktX7_gives_1 := dk_seg dksX7_gives_0 24 rfl rfl
theorem dX7_gives_0 : decode cX7_gives 0 = .ok (.aload_n 0, 1) := dk_42 (dk_at dksX7_gives_0 0 rfl rfl)
theorem dX7_gives_1 : decode cX7_gives 1 = .ok (.getfield 12, 3) := dk_180 0 12 (dk_at dksX7_gives_0 1 rfl rfl)
theorem dX7_gives_4 : decode cX7_gives 4 = .ok (.aload_n 0, 1) := dk_42 (dk_at dksX7_gives_0 4 rfl rfl)
theorem dX7_gives_5 : decode cX7_gives 5 = .ok (.getfield 18, 3) := dk_180 0 18 (dk_at dksX7_gives_0 5 rfl rfl)
theorem dX7_gives_8 : decode cX7_gives 8 = .ok (.invokevirtual 120, 3) := dk_182 0 120 (dk_at dksX7_gives_0 8 rfl rfl)
theorem dX7_gives_11 : decode cX7_gives 11 = .ok (.checkcast 31, 3) := dk_192 0 31 (dk_at dksX7_gives_0 11 rfl rfl)
theorem dX7_gives_14 : decode cX7_gives 14 = .ok (.astore_n 1, 1) := dk_76 (dk_at dksX7_gives_0 14 rfl rfl)
theorem dX7_gives_15 : decode cX7_gives 15 = .ok (.aload_n 1, 1) := dk_43 (dk_at dksX7_gives_0 15 rfl rfl)
theorem dX7_gives_16 : decode cX7_gives 16 = .ok (.invokevirtual 148, 3) := dk_182 0 148 (dk_at dksX7_gives_0 16 rfl rfl)
theorem dX7_gives_19 : decode cX7_gives 19 = .ok (.aload_n 1, 1) := dk_43 (dk_at dksX7_gives_0 19 rfl rfl)
theorem dX7_gives_20 : decode cX7_gives 20 = .ok (.iconst 4, 1) := dk_7 (dk_at dksX7_gives_0 20 rfl rfl)
theorem dX7_gives_21 : decode cX7_gives 21 = .ok (.putfield 102, 3) := dk_181 0 102 (dk_at dksX7_gives_0 21 rfl rfl)
theorem dX7_gives_24 : decode cX7_gives 24 = .ok (.aload_n 0, 1) := dk_42 (dk_at dksX7_gives_1 0 rfl rfl)
theorem dX7_gives_25 : decode cX7_gives 25 = .ok (.invokevirtual 145, 3) := dk_182 0 145 (dk_at dksX7_gives_1 1 rfl rfl)
theorem dX7_gives_28 : decode cX7_gives 28 = .ok (.ireturn, 1) := dk_172 (dk_at dksX7_gives_1 4 rfl rfl)
abbrev cX7_doubts : ByteArray := prog_10_method_20_code
def yX7_doubts : MethodName := ⟨RX7, "doubts", "(II)I"⟩
def dkwX7_doubts_7 : List UInt8 := [21, 6, 16, 8, 128, 54, 6, 21, 6, 172]
abbrev dktX7_doubts_7 : List UInt8 := dkwX7_doubts_7 ++ []
def dkwX7_doubts_6 : List UInt8 := [182, 0, 171, 154, 0, 20, 42, 42, 4, 27, 28, 4, 182, 0, 79, 25, 4, 182, 0, 171, 153, 0, 10]
abbrev dktX7_doubts_6 : List UInt8 := dkwX7_doubts_6 ++ dktX7_doubts_7
def dkwX7_doubts_5 : List UInt8 := [182, 0, 175, 21, 7, 164, 0, 9, 21, 6, 7, 128, 54, 6, 42, 42, 3, 27, 28, 4, 182, 0, 79, 45]
abbrev dktX7_doubts_5 : List UInt8 := dkwX7_doubts_5 ++ dktX7_doubts_6
def dkwX7_doubts_4 : List UInt8 := [21, 6, 5, 128, 54, 6, 42, 3, 27, 28, 182, 0, 175, 54, 7, 21, 7, 155, 0, 21, 42, 4, 27, 28]
abbrev dktX7_doubts_4 : List UInt8 := dkwX7_doubts_4 ++ dktX7_doubts_5
def dkwX7_doubts_3 : List UInt8 := [153, 0, 29, 45, 180, 0, 87, 25, 5, 180, 0, 87, 100, 42, 180, 0, 22, 180, 0, 90, 164, 0, 9]
abbrev dktX7_doubts_3 : List UInt8 := dkwX7_doubts_3 ++ dktX7_doubts_4
def dkwX7_doubts_2 : List UInt8 := [153, 0, 7, 4, 167, 0, 4, 3, 54, 6, 42, 45, 182, 0, 167, 153, 0, 38, 42, 25, 5, 182, 0, 167]
abbrev dktX7_doubts_2 : List UInt8 := dkwX7_doubts_2 ++ dktX7_doubts_3
def dkwX7_doubts_1 : List UInt8 := [182, 0, 83, 58, 5, 42, 25, 4, 25, 5, 182, 0, 171, 154, 0, 14, 42, 25, 5, 25, 4, 182, 0, 171]
abbrev dktX7_doubts_1 : List UInt8 := dkwX7_doubts_1 ++ dktX7_doubts_2
def dkwX7_doubts_0 : List UInt8 := [42, 3, 27, 28, 182, 0, 83, 78, 42, 4, 27, 28, 182, 0, 83, 58, 4, 42, 4, 4, 27, 100, 28]
abbrev dktX7_doubts_0 : List UInt8 := dkwX7_doubts_0 ++ dktX7_doubts_1
theorem dksX7_doubts_0 : cX7_doubts.data.toList.drop 0 = dktX7_doubts_0 := by decide +kernel
theorem dksX7_doubts_1 : cX7_doubts.data.toList.drop 23 = dktX7_doubts_1 := dk_seg dksX7_doubts_0 23 rfl rfl
theorem dksX7_doubts_2 : cX7_doubts.data.toList.drop 47 = dktX7_doubts_2 := dk_seg dksX7_doubts_1 24 rfl rfl
theorem dksX7_doubts_3 : cX7_doubts.data.toList.drop 71 = dktX7_doubts_3 := dk_seg dksX7_doubts_2 24 rfl rfl
theorem dksX7_doubts_4 : cX7_doubts.data.toList.drop 94 = dktX7_doubts_4 := dk_seg dksX7_doubts_3 23 rfl rfl
theorem dksX7_doubts_5 : cX7_doubts.data.toList.drop 118 = dktX7_doubts_5 := dk_seg dksX7_doubts_4 24 rfl rfl
theorem dksX7_doubts_6 : cX7_doubts.data.toList.drop 142 = dktX7_doubts_6 := dk_seg dksX7_doubts_5 24 rfl rfl
theorem dksX7_doubts_7 : cX7_doubts.data.toList.drop 165 = dktX7_doubts_7 := dk_seg dksX7_doubts_6 23 rfl rfl
theorem dX7_doubts_0 : decode cX7_doubts 0 = .ok (.aload_n 0, 1) := dk_42 (dk_at dksX7_doubts_0 0 rfl rfl)
theorem dX7_doubts_1 : decode cX7_doubts 1 = .ok (.iconst 0, 1) := dk_3 (dk_at dksX7_doubts_0 1 rfl rfl)
theorem dX7_doubts_2 : decode cX7_doubts 2 = .ok (.iload_n 1, 1) := dk_27 (dk_at dksX7_doubts_0 2 rfl rfl)
theorem dX7_doubts_3 : decode cX7_doubts 3 = .ok (.iload_n 2, 1) := dk_28 (dk_at dksX7_doubts_0 3 rfl rfl)
theorem dX7_doubts_4 : decode cX7_doubts 4 = .ok (.invokevirtual 83, 3) := dk_182 0 83 (dk_at dksX7_doubts_0 4 rfl rfl)
theorem dX7_doubts_7 : decode cX7_doubts 7 = .ok (.astore_n 3, 1) := dk_78 (dk_at dksX7_doubts_0 7 rfl rfl)
theorem dX7_doubts_8 : decode cX7_doubts 8 = .ok (.aload_n 0, 1) := dk_42 (dk_at dksX7_doubts_0 8 rfl rfl)
theorem dX7_doubts_9 : decode cX7_doubts 9 = .ok (.iconst 1, 1) := dk_4 (dk_at dksX7_doubts_0 9 rfl rfl)
theorem dX7_doubts_10 : decode cX7_doubts 10 = .ok (.iload_n 1, 1) := dk_27 (dk_at dksX7_doubts_0 10 rfl rfl)
theorem dX7_doubts_11 : decode cX7_doubts 11 = .ok (.iload_n 2, 1) := dk_28 (dk_at dksX7_doubts_0 11 rfl rfl)
theorem dX7_doubts_12 : decode cX7_doubts 12 = .ok (.invokevirtual 83, 3) := dk_182 0 83 (dk_at dksX7_doubts_0 12 rfl rfl)
theorem dX7_doubts_15 : decode cX7_doubts 15 = .ok (.astore 4, 2) := dk_58 4 (dk_at dksX7_doubts_0 15 rfl rfl)
theorem dX7_doubts_17 : decode cX7_doubts 17 = .ok (.aload_n 0, 1) := dk_42 (dk_at dksX7_doubts_0 17 rfl rfl)
theorem dX7_doubts_18 : decode cX7_doubts 18 = .ok (.iconst 1, 1) := dk_4 (dk_at dksX7_doubts_0 18 rfl rfl)
theorem dX7_doubts_19 : decode cX7_doubts 19 = .ok (.iconst 1, 1) := dk_4 (dk_at dksX7_doubts_0 19 rfl rfl)
theorem dX7_doubts_20 : decode cX7_doubts 20 = .ok (.iload_n 1, 1) := dk_27 (dk_at dksX7_doubts_0 20 rfl rfl)
theorem dX7_doubts_21 : decode cX7_doubts 21 = .ok (.isub, 1) := dk_100 (dk_at dksX7_doubts_0 21 rfl rfl)
theorem dX7_doubts_22 : decode cX7_doubts 22 = .ok (.iload_n 2, 1) := dk_28 (dk_at dksX7_doubts_0 22 rfl rfl)
theorem dX7_doubts_23 : decode cX7_doubts 23 = .ok (.invokevirtual 83, 3) := dk_182 0 83 (dk_at dksX7_doubts_1 0 rfl rfl)
theorem dX7_doubts_26 : decode cX7_doubts 26 = .ok (.astore 5, 2) := dk_58 5 (dk_at dksX7_doubts_1 3 rfl rfl)
theorem dX7_doubts_28 : decode cX7_doubts 28 = .ok (.aload_n 0, 1) := dk_42 (dk_at dksX7_doubts_1 5 rfl rfl)
theorem dX7_doubts_29 : decode cX7_doubts 29 = .ok (.aload 4, 2) := dk_25 4 (dk_at dksX7_doubts_1 6 rfl rfl)
theorem dX7_doubts_31 : decode cX7_doubts 31 = .ok (.aload 5, 2) := dk_25 5 (dk_at dksX7_doubts_1 8 rfl rfl)
theorem dX7_doubts_33 : decode cX7_doubts 33 = .ok (.invokevirtual 171, 3) := dk_182 0 171 (dk_at dksX7_doubts_1 10 rfl rfl)
theorem dX7_doubts_36 : decode cX7_doubts 36 = .ok (.ifCond .ne 14, 3) := dk_154 0 14 (dk_at dksX7_doubts_1 13 rfl rfl)
theorem dX7_doubts_39 : decode cX7_doubts 39 = .ok (.aload_n 0, 1) := dk_42 (dk_at dksX7_doubts_1 16 rfl rfl)
theorem dX7_doubts_40 : decode cX7_doubts 40 = .ok (.aload 5, 2) := dk_25 5 (dk_at dksX7_doubts_1 17 rfl rfl)
theorem dX7_doubts_42 : decode cX7_doubts 42 = .ok (.aload 4, 2) := dk_25 4 (dk_at dksX7_doubts_1 19 rfl rfl)
theorem dX7_doubts_44 : decode cX7_doubts 44 = .ok (.invokevirtual 171, 3) := dk_182 0 171 (dk_at dksX7_doubts_1 21 rfl rfl)
theorem dX7_doubts_47 : decode cX7_doubts 47 = .ok (.ifCond .eq 7, 3) := dk_153 0 7 (dk_at dksX7_doubts_2 0 rfl rfl)
theorem dX7_doubts_50 : decode cX7_doubts 50 = .ok (.iconst 1, 1) := dk_4 (dk_at dksX7_doubts_2 3 rfl rfl)
theorem dX7_doubts_51 : decode cX7_doubts 51 = .ok (.goto 4, 3) := dk_167 0 4 (dk_at dksX7_doubts_2 4 rfl rfl)
theorem dX7_doubts_54 : decode cX7_doubts 54 = .ok (.iconst 0, 1) := dk_3 (dk_at dksX7_doubts_2 7 rfl rfl)
theorem dX7_doubts_55 : decode cX7_doubts 55 = .ok (.istore 6, 2) := dk_54 6 (dk_at dksX7_doubts_2 8 rfl rfl)
theorem dX7_doubts_57 : decode cX7_doubts 57 = .ok (.aload_n 0, 1) := dk_42 (dk_at dksX7_doubts_2 10 rfl rfl)
theorem dX7_doubts_58 : decode cX7_doubts 58 = .ok (.aload_n 3, 1) := dk_45 (dk_at dksX7_doubts_2 11 rfl rfl)
theorem dX7_doubts_59 : decode cX7_doubts 59 = .ok (.invokevirtual 167, 3) := dk_182 0 167 (dk_at dksX7_doubts_2 12 rfl rfl)
theorem dX7_doubts_62 : decode cX7_doubts 62 = .ok (.ifCond .eq 38, 3) := dk_153 0 38 (dk_at dksX7_doubts_2 15 rfl rfl)
theorem dX7_doubts_65 : decode cX7_doubts 65 = .ok (.aload_n 0, 1) := dk_42 (dk_at dksX7_doubts_2 18 rfl rfl)
theorem dX7_doubts_66 : decode cX7_doubts 66 = .ok (.aload 5, 2) := dk_25 5 (dk_at dksX7_doubts_2 19 rfl rfl)
theorem dX7_doubts_68 : decode cX7_doubts 68 = .ok (.invokevirtual 167, 3) := dk_182 0 167 (dk_at dksX7_doubts_2 21 rfl rfl)
theorem dX7_doubts_71 : decode cX7_doubts 71 = .ok (.ifCond .eq 29, 3) := dk_153 0 29 (dk_at dksX7_doubts_3 0 rfl rfl)
theorem dX7_doubts_74 : decode cX7_doubts 74 = .ok (.aload_n 3, 1) := dk_45 (dk_at dksX7_doubts_3 3 rfl rfl)
theorem dX7_doubts_75 : decode cX7_doubts 75 = .ok (.getfield 87, 3) := dk_180 0 87 (dk_at dksX7_doubts_3 4 rfl rfl)
theorem dX7_doubts_78 : decode cX7_doubts 78 = .ok (.aload 5, 2) := dk_25 5 (dk_at dksX7_doubts_3 7 rfl rfl)
theorem dX7_doubts_80 : decode cX7_doubts 80 = .ok (.getfield 87, 3) := dk_180 0 87 (dk_at dksX7_doubts_3 9 rfl rfl)
theorem dX7_doubts_83 : decode cX7_doubts 83 = .ok (.isub, 1) := dk_100 (dk_at dksX7_doubts_3 12 rfl rfl)
theorem dX7_doubts_84 : decode cX7_doubts 84 = .ok (.aload_n 0, 1) := dk_42 (dk_at dksX7_doubts_3 13 rfl rfl)
theorem dX7_doubts_85 : decode cX7_doubts 85 = .ok (.getfield 22, 3) := dk_180 0 22 (dk_at dksX7_doubts_3 14 rfl rfl)
theorem dX7_doubts_88 : decode cX7_doubts 88 = .ok (.getfield 90, 3) := dk_180 0 90 (dk_at dksX7_doubts_3 17 rfl rfl)
theorem dX7_doubts_91 : decode cX7_doubts 91 = .ok (.if_icmp .le 9, 3) := dk_164 0 9 (dk_at dksX7_doubts_3 20 rfl rfl)
theorem dX7_doubts_94 : decode cX7_doubts 94 = .ok (.iload 6, 2) := dk_21 6 (dk_at dksX7_doubts_4 0 rfl rfl)
theorem dX7_doubts_96 : decode cX7_doubts 96 = .ok (.iconst 2, 1) := dk_5 (dk_at dksX7_doubts_4 2 rfl rfl)
theorem dX7_doubts_97 : decode cX7_doubts 97 = .ok (.ior, 1) := dk_128 (dk_at dksX7_doubts_4 3 rfl rfl)
theorem dX7_doubts_98 : decode cX7_doubts 98 = .ok (.istore 6, 2) := dk_54 6 (dk_at dksX7_doubts_4 4 rfl rfl)
theorem dX7_doubts_100 : decode cX7_doubts 100 = .ok (.aload_n 0, 1) := dk_42 (dk_at dksX7_doubts_4 6 rfl rfl)
theorem dX7_doubts_101 : decode cX7_doubts 101 = .ok (.iconst 0, 1) := dk_3 (dk_at dksX7_doubts_4 7 rfl rfl)
theorem dX7_doubts_102 : decode cX7_doubts 102 = .ok (.iload_n 1, 1) := dk_27 (dk_at dksX7_doubts_4 8 rfl rfl)
theorem dX7_doubts_103 : decode cX7_doubts 103 = .ok (.iload_n 2, 1) := dk_28 (dk_at dksX7_doubts_4 9 rfl rfl)
theorem dX7_doubts_104 : decode cX7_doubts 104 = .ok (.invokevirtual 175, 3) := dk_182 0 175 (dk_at dksX7_doubts_4 10 rfl rfl)
theorem dX7_doubts_107 : decode cX7_doubts 107 = .ok (.istore 7, 2) := dk_54 7 (dk_at dksX7_doubts_4 13 rfl rfl)
theorem dX7_doubts_109 : decode cX7_doubts 109 = .ok (.iload 7, 2) := dk_21 7 (dk_at dksX7_doubts_4 15 rfl rfl)
theorem dX7_doubts_111 : decode cX7_doubts 111 = .ok (.ifCond .lt 21, 3) := dk_155 0 21 (dk_at dksX7_doubts_4 17 rfl rfl)
theorem dX7_doubts_114 : decode cX7_doubts 114 = .ok (.aload_n 0, 1) := dk_42 (dk_at dksX7_doubts_4 20 rfl rfl)
theorem dX7_doubts_115 : decode cX7_doubts 115 = .ok (.iconst 1, 1) := dk_4 (dk_at dksX7_doubts_4 21 rfl rfl)
theorem dX7_doubts_116 : decode cX7_doubts 116 = .ok (.iload_n 1, 1) := dk_27 (dk_at dksX7_doubts_4 22 rfl rfl)
theorem dX7_doubts_117 : decode cX7_doubts 117 = .ok (.iload_n 2, 1) := dk_28 (dk_at dksX7_doubts_4 23 rfl rfl)
theorem dX7_doubts_118 : decode cX7_doubts 118 = .ok (.invokevirtual 175, 3) := dk_182 0 175 (dk_at dksX7_doubts_5 0 rfl rfl)
theorem dX7_doubts_121 : decode cX7_doubts 121 = .ok (.iload 7, 2) := dk_21 7 (dk_at dksX7_doubts_5 3 rfl rfl)
theorem dX7_doubts_123 : decode cX7_doubts 123 = .ok (.if_icmp .le 9, 3) := dk_164 0 9 (dk_at dksX7_doubts_5 5 rfl rfl)
theorem dX7_doubts_126 : decode cX7_doubts 126 = .ok (.iload 6, 2) := dk_21 6 (dk_at dksX7_doubts_5 8 rfl rfl)
theorem dX7_doubts_128 : decode cX7_doubts 128 = .ok (.iconst 4, 1) := dk_7 (dk_at dksX7_doubts_5 10 rfl rfl)
theorem dX7_doubts_129 : decode cX7_doubts 129 = .ok (.ior, 1) := dk_128 (dk_at dksX7_doubts_5 11 rfl rfl)
theorem dX7_doubts_130 : decode cX7_doubts 130 = .ok (.istore 6, 2) := dk_54 6 (dk_at dksX7_doubts_5 12 rfl rfl)
theorem dX7_doubts_132 : decode cX7_doubts 132 = .ok (.aload_n 0, 1) := dk_42 (dk_at dksX7_doubts_5 14 rfl rfl)
theorem dX7_doubts_133 : decode cX7_doubts 133 = .ok (.aload_n 0, 1) := dk_42 (dk_at dksX7_doubts_5 15 rfl rfl)
theorem dX7_doubts_134 : decode cX7_doubts 134 = .ok (.iconst 0, 1) := dk_3 (dk_at dksX7_doubts_5 16 rfl rfl)
theorem dX7_doubts_135 : decode cX7_doubts 135 = .ok (.iload_n 1, 1) := dk_27 (dk_at dksX7_doubts_5 17 rfl rfl)
theorem dX7_doubts_136 : decode cX7_doubts 136 = .ok (.iload_n 2, 1) := dk_28 (dk_at dksX7_doubts_5 18 rfl rfl)
theorem dX7_doubts_137 : decode cX7_doubts 137 = .ok (.iconst 1, 1) := dk_4 (dk_at dksX7_doubts_5 19 rfl rfl)
theorem dX7_doubts_138 : decode cX7_doubts 138 = .ok (.invokevirtual 79, 3) := dk_182 0 79 (dk_at dksX7_doubts_5 20 rfl rfl)
theorem dX7_doubts_141 : decode cX7_doubts 141 = .ok (.aload_n 3, 1) := dk_45 (dk_at dksX7_doubts_5 23 rfl rfl)
theorem dX7_doubts_142 : decode cX7_doubts 142 = .ok (.invokevirtual 171, 3) := dk_182 0 171 (dk_at dksX7_doubts_6 0 rfl rfl)
theorem dX7_doubts_145 : decode cX7_doubts 145 = .ok (.ifCond .ne 20, 3) := dk_154 0 20 (dk_at dksX7_doubts_6 3 rfl rfl)
theorem dX7_doubts_148 : decode cX7_doubts 148 = .ok (.aload_n 0, 1) := dk_42 (dk_at dksX7_doubts_6 6 rfl rfl)
theorem dX7_doubts_149 : decode cX7_doubts 149 = .ok (.aload_n 0, 1) := dk_42 (dk_at dksX7_doubts_6 7 rfl rfl)
theorem dX7_doubts_150 : decode cX7_doubts 150 = .ok (.iconst 1, 1) := dk_4 (dk_at dksX7_doubts_6 8 rfl rfl)
theorem dX7_doubts_151 : decode cX7_doubts 151 = .ok (.iload_n 1, 1) := dk_27 (dk_at dksX7_doubts_6 9 rfl rfl)
theorem dX7_doubts_152 : decode cX7_doubts 152 = .ok (.iload_n 2, 1) := dk_28 (dk_at dksX7_doubts_6 10 rfl rfl)
theorem dX7_doubts_153 : decode cX7_doubts 153 = .ok (.iconst 1, 1) := dk_4 (dk_at dksX7_doubts_6 11 rfl rfl)
theorem dX7_doubts_154 : decode cX7_doubts 154 = .ok (.invokevirtual 79, 3) := dk_182 0 79 (dk_at dksX7_doubts_6 12 rfl rfl)
theorem dX7_doubts_157 : decode cX7_doubts 157 = .ok (.aload 4, 2) := dk_25 4 (dk_at dksX7_doubts_6 15 rfl rfl)
theorem dX7_doubts_159 : decode cX7_doubts 159 = .ok (.invokevirtual 171, 3) := dk_182 0 171 (dk_at dksX7_doubts_6 17 rfl rfl)
theorem dX7_doubts_162 : decode cX7_doubts 162 = .ok (.ifCond .eq 10, 3) := dk_153 0 10 (dk_at dksX7_doubts_6 20 rfl rfl)
theorem dX7_doubts_165 : decode cX7_doubts 165 = .ok (.iload 6, 2) := dk_21 6 (dk_at dksX7_doubts_7 0 rfl rfl)
theorem dX7_doubts_167 : decode cX7_doubts 167 = .ok (.bipush 8, 2) := dk_16 8 (dk_at dksX7_doubts_7 2 rfl rfl)
theorem dX7_doubts_169 : decode cX7_doubts 169 = .ok (.ior, 1) := dk_128 (dk_at dksX7_doubts_7 4 rfl rfl)
theorem dX7_doubts_170 : decode cX7_doubts 170 = .ok (.istore 6, 2) := dk_54 6 (dk_at dksX7_doubts_7 5 rfl rfl)
theorem dX7_doubts_172 : decode cX7_doubts 172 = .ok (.iload 6, 2) := dk_21 6 (dk_at dksX7_doubts_7 7 rfl rfl)
theorem dX7_doubts_174 : decode cX7_doubts 174 = .ok (.ireturn, 1) := dk_172 (dk_at dksX7_doubts_7 9 rfl rfl)
abbrev cX7_isBelow : ByteArray := prog_10_method_19_code
def yX7_isBelow : MethodName := ⟨RX7, "isBelow", "(LMaskedEars$Task;LMaskedEars$Task;)Z"⟩
def dkwX7_isBelow_1 : List UInt8 := [162, 0, 7, 4, 167, 0, 4, 3, 172]
abbrev dktX7_isBelow_1 : List UInt8 := dkwX7_isBelow_1 ++ []
def dkwX7_isBelow_0 : List UInt8 := [42, 43, 182, 0, 167, 153, 0, 26, 42, 44, 182, 0, 167, 153, 0, 18, 43, 180, 0, 87, 44, 180, 0, 87]
abbrev dktX7_isBelow_0 : List UInt8 := dkwX7_isBelow_0 ++ dktX7_isBelow_1
theorem dksX7_isBelow_0 : cX7_isBelow.data.toList.drop 0 = dktX7_isBelow_0 := by decide +kernel
theorem dksX7_isBelow_1 : cX7_isBelow.data.toList.drop 24 = dktX7_isBelow_1 := dk_seg dksX7_isBelow_0 24 rfl rfl
theorem dX7_isBelow_0 : decode cX7_isBelow 0 = .ok (.aload_n 0, 1) := dk_42 (dk_at dksX7_isBelow_0 0 rfl rfl)
theorem dX7_isBelow_1 : decode cX7_isBelow 1 = .ok (.aload_n 1, 1) := dk_43 (dk_at dksX7_isBelow_0 1 rfl rfl)
theorem dX7_isBelow_2 : decode cX7_isBelow 2 = .ok (.invokevirtual 167, 3) := dk_182 0 167 (dk_at dksX7_isBelow_0 2 rfl rfl)
theorem dX7_isBelow_5 : decode cX7_isBelow 5 = .ok (.ifCond .eq 26, 3) := dk_153 0 26 (dk_at dksX7_isBelow_0 5 rfl rfl)
theorem dX7_isBelow_8 : decode cX7_isBelow 8 = .ok (.aload_n 0, 1) := dk_42 (dk_at dksX7_isBelow_0 8 rfl rfl)
theorem dX7_isBelow_9 : decode cX7_isBelow 9 = .ok (.aload_n 2, 1) := dk_44 (dk_at dksX7_isBelow_0 9 rfl rfl)
theorem dX7_isBelow_10 : decode cX7_isBelow 10 = .ok (.invokevirtual 167, 3) := dk_182 0 167 (dk_at dksX7_isBelow_0 10 rfl rfl)
theorem dX7_isBelow_13 : decode cX7_isBelow 13 = .ok (.ifCond .eq 18, 3) := dk_153 0 18 (dk_at dksX7_isBelow_0 13 rfl rfl)
theorem dX7_isBelow_16 : decode cX7_isBelow 16 = .ok (.aload_n 1, 1) := dk_43 (dk_at dksX7_isBelow_0 16 rfl rfl)
theorem dX7_isBelow_17 : decode cX7_isBelow 17 = .ok (.getfield 87, 3) := dk_180 0 87 (dk_at dksX7_isBelow_0 17 rfl rfl)
theorem dX7_isBelow_20 : decode cX7_isBelow 20 = .ok (.aload_n 2, 1) := dk_44 (dk_at dksX7_isBelow_0 20 rfl rfl)
theorem dX7_isBelow_21 : decode cX7_isBelow 21 = .ok (.getfield 87, 3) := dk_180 0 87 (dk_at dksX7_isBelow_0 21 rfl rfl)
theorem dX7_isBelow_24 : decode cX7_isBelow 24 = .ok (.if_icmp .ge 7, 3) := dk_162 0 7 (dk_at dksX7_isBelow_1 0 rfl rfl)
theorem dX7_isBelow_27 : decode cX7_isBelow 27 = .ok (.iconst 1, 1) := dk_4 (dk_at dksX7_isBelow_1 3 rfl rfl)
theorem dX7_isBelow_28 : decode cX7_isBelow 28 = .ok (.goto 4, 3) := dk_167 0 4 (dk_at dksX7_isBelow_1 4 rfl rfl)
theorem dX7_isBelow_31 : decode cX7_isBelow 31 = .ok (.iconst 0, 1) := dk_3 (dk_at dksX7_isBelow_1 7 rfl rfl)
theorem dX7_isBelow_32 : decode cX7_isBelow 32 = .ok (.ireturn, 1) := dk_172 (dk_at dksX7_isBelow_1 8 rfl rfl)
abbrev cX7_isProved : ByteArray := prog_10_method_18_code
def yX7_isProved : MethodName := ⟨RX7, "isProved", "(LMaskedEars$Task;)Z"⟩
def dkwX7_isProved_0 : List UInt8 := [43, 198, 0, 15, 43, 180, 0, 102, 5, 160, 0, 7, 4, 167, 0, 4, 3, 172]
abbrev dktX7_isProved_0 : List UInt8 := dkwX7_isProved_0 ++ []
theorem dksX7_isProved_0 : cX7_isProved.data.toList.drop 0 = dktX7_isProved_0 := by decide +kernel
theorem dX7_isProved_0 : decode cX7_isProved 0 = .ok (.aload_n 1, 1) := dk_43 (dk_at dksX7_isProved_0 0 rfl rfl)
theorem dX7_isProved_1 : decode cX7_isProved 1 = .ok (.ifnull 15, 3) := dk_198 0 15 (dk_at dksX7_isProved_0 1 rfl rfl)
theorem dX7_isProved_4 : decode cX7_isProved 4 = .ok (.aload_n 1, 1) := dk_43 (dk_at dksX7_isProved_0 4 rfl rfl)
theorem dX7_isProved_5 : decode cX7_isProved 5 = .ok (.getfield 102, 3) := dk_180 0 102 (dk_at dksX7_isProved_0 5 rfl rfl)
theorem dX7_isProved_8 : decode cX7_isProved 8 = .ok (.iconst 2, 1) := dk_5 (dk_at dksX7_isProved_0 8 rfl rfl)
theorem dX7_isProved_9 : decode cX7_isProved 9 = .ok (.if_icmp .ne 7, 3) := dk_160 0 7 (dk_at dksX7_isProved_0 9 rfl rfl)
theorem dX7_isProved_12 : decode cX7_isProved 12 = .ok (.iconst 1, 1) := dk_4 (dk_at dksX7_isProved_0 12 rfl rfl)
theorem dX7_isProved_13 : decode cX7_isProved 13 = .ok (.goto 4, 3) := dk_167 0 4 (dk_at dksX7_isProved_0 13 rfl rfl)
theorem dX7_isProved_16 : decode cX7_isProved 16 = .ok (.iconst 0, 1) := dk_3 (dk_at dksX7_isProved_0 16 rfl rfl)
theorem dX7_isProved_17 : decode cX7_isProved 17 = .ok (.ireturn, 1) := dk_172 (dk_at dksX7_isProved_0 17 rfl rfl)
abbrev cX7_told : ByteArray := prog_10_method_23_code
def yX7_told : MethodName := ⟨RX7, "told", "(III)I"⟩
def dkwX7_told_2 : List UInt8 := [160, 0, 11, 25, 5, 180, 0, 87, 167, 0, 5, 16, 253, 172]
abbrev dktX7_told_2 : List UInt8 := dkwX7_told_2 ++ []
def dkwX7_told_1 : List UInt8 := [167, 0, 5, 25, 4, 58, 5, 25, 5, 182, 0, 99, 154, 0, 6, 16, 254, 172, 25, 5, 180, 0, 102, 5]
abbrev dktX7_told_1 : List UInt8 := dkwX7_told_1 ++ dktX7_told_2
def dkwX7_told_0 : List UInt8 := [42, 27, 28, 29, 4, 182, 0, 79, 58, 4, 25, 4, 199, 0, 13, 42, 27, 28, 29, 182, 0, 83]
abbrev dktX7_told_0 : List UInt8 := dkwX7_told_0 ++ dktX7_told_1
theorem dksX7_told_0 : cX7_told.data.toList.drop 0 = dktX7_told_0 := by decide +kernel
theorem dksX7_told_1 : cX7_told.data.toList.drop 22 = dktX7_told_1 := dk_seg dksX7_told_0 22 rfl rfl
theorem dksX7_told_2 : cX7_told.data.toList.drop 46 = dktX7_told_2 := dk_seg dksX7_told_1 24 rfl rfl
theorem dX7_told_0 : decode cX7_told 0 = .ok (.aload_n 0, 1) := dk_42 (dk_at dksX7_told_0 0 rfl rfl)
theorem dX7_told_1 : decode cX7_told 1 = .ok (.iload_n 1, 1) := dk_27 (dk_at dksX7_told_0 1 rfl rfl)
theorem dX7_told_2 : decode cX7_told 2 = .ok (.iload_n 2, 1) := dk_28 (dk_at dksX7_told_0 2 rfl rfl)
theorem dX7_told_3 : decode cX7_told 3 = .ok (.iload_n 3, 1) := dk_29 (dk_at dksX7_told_0 3 rfl rfl)
theorem dX7_told_4 : decode cX7_told 4 = .ok (.iconst 1, 1) := dk_4 (dk_at dksX7_told_0 4 rfl rfl)
theorem dX7_told_5 : decode cX7_told 5 = .ok (.invokevirtual 79, 3) := dk_182 0 79 (dk_at dksX7_told_0 5 rfl rfl)
theorem dX7_told_8 : decode cX7_told 8 = .ok (.astore 4, 2) := dk_58 4 (dk_at dksX7_told_0 8 rfl rfl)
theorem dX7_told_10 : decode cX7_told 10 = .ok (.aload 4, 2) := dk_25 4 (dk_at dksX7_told_0 10 rfl rfl)
theorem dX7_told_12 : decode cX7_told 12 = .ok (.ifnonnull 13, 3) := dk_199 0 13 (dk_at dksX7_told_0 12 rfl rfl)
theorem dX7_told_15 : decode cX7_told 15 = .ok (.aload_n 0, 1) := dk_42 (dk_at dksX7_told_0 15 rfl rfl)
theorem dX7_told_16 : decode cX7_told 16 = .ok (.iload_n 1, 1) := dk_27 (dk_at dksX7_told_0 16 rfl rfl)
theorem dX7_told_17 : decode cX7_told 17 = .ok (.iload_n 2, 1) := dk_28 (dk_at dksX7_told_0 17 rfl rfl)
theorem dX7_told_18 : decode cX7_told 18 = .ok (.iload_n 3, 1) := dk_29 (dk_at dksX7_told_0 18 rfl rfl)
theorem dX7_told_19 : decode cX7_told 19 = .ok (.invokevirtual 83, 3) := dk_182 0 83 (dk_at dksX7_told_0 19 rfl rfl)
theorem dX7_told_22 : decode cX7_told 22 = .ok (.goto 5, 3) := dk_167 0 5 (dk_at dksX7_told_1 0 rfl rfl)
theorem dX7_told_25 : decode cX7_told 25 = .ok (.aload 4, 2) := dk_25 4 (dk_at dksX7_told_1 3 rfl rfl)
theorem dX7_told_27 : decode cX7_told 27 = .ok (.astore 5, 2) := dk_58 5 (dk_at dksX7_told_1 5 rfl rfl)
theorem dX7_told_29 : decode cX7_told 29 = .ok (.aload 5, 2) := dk_25 5 (dk_at dksX7_told_1 7 rfl rfl)
theorem dX7_told_31 : decode cX7_told 31 = .ok (.invokevirtual 99, 3) := dk_182 0 99 (dk_at dksX7_told_1 9 rfl rfl)
theorem dX7_told_34 : decode cX7_told 34 = .ok (.ifCond .ne 6, 3) := dk_154 0 6 (dk_at dksX7_told_1 12 rfl rfl)
theorem dX7_told_37 : decode cX7_told 37 = .ok (.bipush (-2), 2) := dk_16 254 (dk_at dksX7_told_1 15 rfl rfl)
theorem dX7_told_39 : decode cX7_told 39 = .ok (.ireturn, 1) := dk_172 (dk_at dksX7_told_1 17 rfl rfl)
theorem dX7_told_40 : decode cX7_told 40 = .ok (.aload 5, 2) := dk_25 5 (dk_at dksX7_told_1 18 rfl rfl)
theorem dX7_told_42 : decode cX7_told 42 = .ok (.getfield 102, 3) := dk_180 0 102 (dk_at dksX7_told_1 20 rfl rfl)
theorem dX7_told_45 : decode cX7_told 45 = .ok (.iconst 2, 1) := dk_5 (dk_at dksX7_told_1 23 rfl rfl)
theorem dX7_told_46 : decode cX7_told 46 = .ok (.if_icmp .ne 11, 3) := dk_160 0 11 (dk_at dksX7_told_2 0 rfl rfl)
theorem dX7_told_49 : decode cX7_told 49 = .ok (.aload 5, 2) := dk_25 5 (dk_at dksX7_told_2 3 rfl rfl)
theorem dX7_told_51 : decode cX7_told 51 = .ok (.getfield 87, 3) := dk_180 0 87 (dk_at dksX7_told_2 5 rfl rfl)
theorem dX7_told_54 : decode cX7_told 54 = .ok (.goto 5, 3) := dk_167 0 5 (dk_at dksX7_told_2 8 rfl rfl)
theorem dX7_told_57 : decode cX7_told 57 = .ok (.bipush (-3), 2) := dk_16 253 (dk_at dksX7_told_2 11 rfl rfl)
theorem dX7_told_59 : decode cX7_told 59 = .ok (.ireturn, 1) := dk_172 (dk_at dksX7_told_2 13 rfl rfl)
abbrev cX7_isDoubtful : ByteArray := prog_10_method_21_code
def yX7_isDoubtful : MethodName := ⟨RX7, "isDoubtful", "(I)Z"⟩
def dkwX7_isDoubtful_0 : List UInt8 := [42, 3, 27, 182, 0, 178, 154, 0, 12, 42, 4, 27, 182, 0, 178, 153, 0, 7, 4, 167, 0, 4, 3, 172]
abbrev dktX7_isDoubtful_0 : List UInt8 := dkwX7_isDoubtful_0 ++ []
theorem dksX7_isDoubtful_0 : cX7_isDoubtful.data.toList.drop 0 = dktX7_isDoubtful_0 := by decide +kernel
theorem dX7_isDoubtful_0 : decode cX7_isDoubtful 0 = .ok (.aload_n 0, 1) := dk_42 (dk_at dksX7_isDoubtful_0 0 rfl rfl)
theorem dX7_isDoubtful_1 : decode cX7_isDoubtful 1 = .ok (.iconst 0, 1) := dk_3 (dk_at dksX7_isDoubtful_0 1 rfl rfl)
theorem dX7_isDoubtful_2 : decode cX7_isDoubtful 2 = .ok (.iload_n 1, 1) := dk_27 (dk_at dksX7_isDoubtful_0 2 rfl rfl)
theorem dX7_isDoubtful_3 : decode cX7_isDoubtful 3 = .ok (.invokevirtual 178, 3) := dk_182 0 178 (dk_at dksX7_isDoubtful_0 3 rfl rfl)
theorem dX7_isDoubtful_6 : decode cX7_isDoubtful 6 = .ok (.ifCond .ne 12, 3) := dk_154 0 12 (dk_at dksX7_isDoubtful_0 6 rfl rfl)
theorem dX7_isDoubtful_9 : decode cX7_isDoubtful 9 = .ok (.aload_n 0, 1) := dk_42 (dk_at dksX7_isDoubtful_0 9 rfl rfl)
theorem dX7_isDoubtful_10 : decode cX7_isDoubtful 10 = .ok (.iconst 1, 1) := dk_4 (dk_at dksX7_isDoubtful_0 10 rfl rfl)
theorem dX7_isDoubtful_11 : decode cX7_isDoubtful 11 = .ok (.iload_n 1, 1) := dk_27 (dk_at dksX7_isDoubtful_0 11 rfl rfl)
theorem dX7_isDoubtful_12 : decode cX7_isDoubtful 12 = .ok (.invokevirtual 178, 3) := dk_182 0 178 (dk_at dksX7_isDoubtful_0 12 rfl rfl)
theorem dX7_isDoubtful_15 : decode cX7_isDoubtful 15 = .ok (.ifCond .eq 7, 3) := dk_153 0 7 (dk_at dksX7_isDoubtful_0 15 rfl rfl)
theorem dX7_isDoubtful_18 : decode cX7_isDoubtful 18 = .ok (.iconst 1, 1) := dk_4 (dk_at dksX7_isDoubtful_0 18 rfl rfl)
theorem dX7_isDoubtful_19 : decode cX7_isDoubtful 19 = .ok (.goto 4, 3) := dk_167 0 4 (dk_at dksX7_isDoubtful_0 19 rfl rfl)
theorem dX7_isDoubtful_22 : decode cX7_isDoubtful 22 = .ok (.iconst 0, 1) := dk_3 (dk_at dksX7_isDoubtful_0 22 rfl rfl)
theorem dX7_isDoubtful_23 : decode cX7_isDoubtful 23 = .ok (.ireturn, 1) := dk_172 (dk_at dksX7_isDoubtful_0 23 rfl rfl)
abbrev cX7_redoes : ByteArray := prog_10_method_22_code
def yX7_redoes : MethodName := ⟨RX7, "redoes", "()I"⟩
def dkwX7_redoes_4 : List UInt8 := [158, 0, 7, 42, 182, 0, 40, 27, 172]
abbrev dktX7_redoes_4 : List UInt8 := dkwX7_redoes_4 ++ []
def dkwX7_redoes_3 : List UInt8 := [180, 0, 73, 51, 154, 0, 6, 167, 255, 226, 25, 4, 3, 182, 0, 184, 132, 1, 1, 167, 255, 214, 27]
abbrev dktX7_redoes_3 : List UInt8 := dkwX7_redoes_3 ++ dktX7_redoes_4
def dkwX7_redoes_2 : List UInt8 := [78, 45, 185, 0, 47, 1, 0, 153, 0, 39, 45, 185, 0, 53, 1, 0, 192, 0, 31, 58, 4, 44, 25, 4]
abbrev dktX7_redoes_2 : List UInt8 := dkwX7_redoes_2 ++ dktX7_redoes_3
def dkwX7_redoes_1 : List UInt8 := [162, 0, 17, 44, 29, 42, 29, 182, 0, 181, 84, 132, 3, 1, 167, 255, 234, 42, 180, 0, 12, 182, 0, 43]
abbrev dktX7_redoes_1 : List UInt8 := dkwX7_redoes_1 ++ dktX7_redoes_2
def dkwX7_redoes_0 : List UInt8 := [3, 60, 42, 180, 0, 22, 180, 0, 26, 188, 4, 77, 3, 62, 29, 42, 180, 0, 22, 180, 0, 26]
abbrev dktX7_redoes_0 : List UInt8 := dkwX7_redoes_0 ++ dktX7_redoes_1
theorem dksX7_redoes_0 : cX7_redoes.data.toList.drop 0 = dktX7_redoes_0 := by decide +kernel
theorem dksX7_redoes_1 : cX7_redoes.data.toList.drop 22 = dktX7_redoes_1 := dk_seg dksX7_redoes_0 22 rfl rfl
theorem dksX7_redoes_2 : cX7_redoes.data.toList.drop 46 = dktX7_redoes_2 := dk_seg dksX7_redoes_1 24 rfl rfl
theorem dksX7_redoes_3 : cX7_redoes.data.toList.drop 70 = dktX7_redoes_3 := dk_seg dksX7_redoes_2 24 rfl rfl
theorem dksX7_redoes_4 : cX7_redoes.data.toList.drop 93 = dktX7_redoes_4 := dk_seg dksX7_redoes_3 23 rfl rfl
theorem dX7_redoes_0 : decode cX7_redoes 0 = .ok (.iconst 0, 1) := dk_3 (dk_at dksX7_redoes_0 0 rfl rfl)
theorem dX7_redoes_1 : decode cX7_redoes 1 = .ok (.istore_n 1, 1) := dk_60 (dk_at dksX7_redoes_0 1 rfl rfl)
theorem dX7_redoes_2 : decode cX7_redoes 2 = .ok (.aload_n 0, 1) := dk_42 (dk_at dksX7_redoes_0 2 rfl rfl)
theorem dX7_redoes_3 : decode cX7_redoes 3 = .ok (.getfield 22, 3) := dk_180 0 22 (dk_at dksX7_redoes_0 3 rfl rfl)
theorem dX7_redoes_6 : decode cX7_redoes 6 = .ok (.getfield 26, 3) := dk_180 0 26 (dk_at dksX7_redoes_0 6 rfl rfl)
theorem dX7_redoes_9 : decode cX7_redoes 9 = .ok (.newarray .boolean, 2) := dk_188_4 (dk_at dksX7_redoes_0 9 rfl rfl)
theorem dX7_redoes_11 : decode cX7_redoes 11 = .ok (.astore_n 2, 1) := dk_77 (dk_at dksX7_redoes_0 11 rfl rfl)
theorem dX7_redoes_12 : decode cX7_redoes 12 = .ok (.iconst 0, 1) := dk_3 (dk_at dksX7_redoes_0 12 rfl rfl)
theorem dX7_redoes_13 : decode cX7_redoes 13 = .ok (.istore_n 3, 1) := dk_62 (dk_at dksX7_redoes_0 13 rfl rfl)
theorem dX7_redoes_14 : decode cX7_redoes 14 = .ok (.iload_n 3, 1) := dk_29 (dk_at dksX7_redoes_0 14 rfl rfl)
theorem dX7_redoes_15 : decode cX7_redoes 15 = .ok (.aload_n 0, 1) := dk_42 (dk_at dksX7_redoes_0 15 rfl rfl)
theorem dX7_redoes_16 : decode cX7_redoes 16 = .ok (.getfield 22, 3) := dk_180 0 22 (dk_at dksX7_redoes_0 16 rfl rfl)
theorem dX7_redoes_19 : decode cX7_redoes 19 = .ok (.getfield 26, 3) := dk_180 0 26 (dk_at dksX7_redoes_0 19 rfl rfl)
theorem dX7_redoes_22 : decode cX7_redoes 22 = .ok (.if_icmp .ge 17, 3) := dk_162 0 17 (dk_at dksX7_redoes_1 0 rfl rfl)
theorem dX7_redoes_25 : decode cX7_redoes 25 = .ok (.aload_n 2, 1) := dk_44 (dk_at dksX7_redoes_1 3 rfl rfl)
theorem dX7_redoes_26 : decode cX7_redoes 26 = .ok (.iload_n 3, 1) := dk_29 (dk_at dksX7_redoes_1 4 rfl rfl)
theorem dX7_redoes_27 : decode cX7_redoes 27 = .ok (.aload_n 0, 1) := dk_42 (dk_at dksX7_redoes_1 5 rfl rfl)
theorem dX7_redoes_28 : decode cX7_redoes 28 = .ok (.iload_n 3, 1) := dk_29 (dk_at dksX7_redoes_1 6 rfl rfl)
theorem dX7_redoes_29 : decode cX7_redoes 29 = .ok (.invokevirtual 181, 3) := dk_182 0 181 (dk_at dksX7_redoes_1 7 rfl rfl)
theorem dX7_redoes_32 : decode cX7_redoes 32 = .ok (.bastore, 1) := dk_84 (dk_at dksX7_redoes_1 10 rfl rfl)
theorem dX7_redoes_33 : decode cX7_redoes 33 = .ok (.iinc 3 1, 3) := dk_132 3 1 (dk_at dksX7_redoes_1 11 rfl rfl)
theorem dX7_redoes_36 : decode cX7_redoes 36 = .ok (.goto (-22), 3) := dk_167 255 234 (dk_at dksX7_redoes_1 14 rfl rfl)
theorem dX7_redoes_39 : decode cX7_redoes 39 = .ok (.aload_n 0, 1) := dk_42 (dk_at dksX7_redoes_1 17 rfl rfl)
theorem dX7_redoes_40 : decode cX7_redoes 40 = .ok (.getfield 12, 3) := dk_180 0 12 (dk_at dksX7_redoes_1 18 rfl rfl)
theorem dX7_redoes_43 : decode cX7_redoes 43 = .ok (.invokevirtual 43, 3) := dk_182 0 43 (dk_at dksX7_redoes_1 21 rfl rfl)
theorem dX7_redoes_46 : decode cX7_redoes 46 = .ok (.astore_n 3, 1) := dk_78 (dk_at dksX7_redoes_2 0 rfl rfl)
theorem dX7_redoes_47 : decode cX7_redoes 47 = .ok (.aload_n 3, 1) := dk_45 (dk_at dksX7_redoes_2 1 rfl rfl)
theorem dX7_redoes_48 : decode cX7_redoes 48 = .ok (.invokeinterface 47 1, 5) := by decide +kernel
theorem dX7_redoes_53 : decode cX7_redoes 53 = .ok (.ifCond .eq 39, 3) := dk_153 0 39 (dk_at dksX7_redoes_2 7 rfl rfl)
theorem dX7_redoes_56 : decode cX7_redoes 56 = .ok (.aload_n 3, 1) := dk_45 (dk_at dksX7_redoes_2 10 rfl rfl)
theorem dX7_redoes_57 : decode cX7_redoes 57 = .ok (.invokeinterface 53 1, 5) := by decide +kernel
theorem dX7_redoes_62 : decode cX7_redoes 62 = .ok (.checkcast 31, 3) := dk_192 0 31 (dk_at dksX7_redoes_2 16 rfl rfl)
theorem dX7_redoes_65 : decode cX7_redoes 65 = .ok (.astore 4, 2) := dk_58 4 (dk_at dksX7_redoes_2 19 rfl rfl)
theorem dX7_redoes_67 : decode cX7_redoes 67 = .ok (.aload_n 2, 1) := dk_44 (dk_at dksX7_redoes_2 21 rfl rfl)
theorem dX7_redoes_68 : decode cX7_redoes 68 = .ok (.aload 4, 2) := dk_25 4 (dk_at dksX7_redoes_2 22 rfl rfl)
theorem dX7_redoes_70 : decode cX7_redoes 70 = .ok (.getfield 73, 3) := dk_180 0 73 (dk_at dksX7_redoes_3 0 rfl rfl)
theorem dX7_redoes_73 : decode cX7_redoes 73 = .ok (.baload, 1) := dk_51 (dk_at dksX7_redoes_3 3 rfl rfl)
theorem dX7_redoes_74 : decode cX7_redoes 74 = .ok (.ifCond .ne 6, 3) := dk_154 0 6 (dk_at dksX7_redoes_3 4 rfl rfl)
theorem dX7_redoes_77 : decode cX7_redoes 77 = .ok (.goto (-30), 3) := dk_167 255 226 (dk_at dksX7_redoes_3 7 rfl rfl)
theorem dX7_redoes_80 : decode cX7_redoes 80 = .ok (.aload 4, 2) := dk_25 4 (dk_at dksX7_redoes_3 10 rfl rfl)
theorem dX7_redoes_82 : decode cX7_redoes 82 = .ok (.iconst 0, 1) := dk_3 (dk_at dksX7_redoes_3 12 rfl rfl)
theorem dX7_redoes_83 : decode cX7_redoes 83 = .ok (.invokevirtual 184, 3) := dk_182 0 184 (dk_at dksX7_redoes_3 13 rfl rfl)
theorem dX7_redoes_86 : decode cX7_redoes 86 = .ok (.iinc 1 1, 3) := dk_132 1 1 (dk_at dksX7_redoes_3 16 rfl rfl)
theorem dX7_redoes_89 : decode cX7_redoes 89 = .ok (.goto (-42), 3) := dk_167 255 214 (dk_at dksX7_redoes_3 19 rfl rfl)
theorem dX7_redoes_92 : decode cX7_redoes 92 = .ok (.iload_n 1, 1) := dk_27 (dk_at dksX7_redoes_3 22 rfl rfl)
theorem dX7_redoes_93 : decode cX7_redoes 93 = .ok (.ifCond .le 7, 3) := dk_158 0 7 (dk_at dksX7_redoes_4 0 rfl rfl)
theorem dX7_redoes_96 : decode cX7_redoes 96 = .ok (.aload_n 0, 1) := dk_42 (dk_at dksX7_redoes_4 3 rfl rfl)
theorem dX7_redoes_97 : decode cX7_redoes 97 = .ok (.invokevirtual 40, 3) := dk_182 0 40 (dk_at dksX7_redoes_4 4 rfl rfl)
theorem dX7_redoes_100 : decode cX7_redoes 100 = .ok (.iload_n 1, 1) := dk_27 (dk_at dksX7_redoes_4 7 rfl rfl)
theorem dX7_redoes_101 : decode cX7_redoes 101 = .ok (.ireturn, 1) := dk_172 (dk_at dksX7_redoes_4 8 rfl rfl)
abbrev cX7_init_2 : ByteArray := prog_10_method_2_code
def yX7_init_2 : MethodName := ⟨RX7, "<init>", "(LMaskedEars$Test;)V"⟩
def dkwX7_init_2_4 : List UInt8 := [180, 0, 63, 181, 0, 63, 177]
abbrev dktX7_init_2_4 : List UInt8 := dkwX7_init_2_4 ++ []
def dkwX7_init_2_3 : List UInt8 := [87, 167, 255, 221, 42, 43, 180, 0, 18, 181, 0, 18, 42, 43, 180, 0, 60, 181, 0, 60, 42, 43]
abbrev dktX7_init_2_3 : List UInt8 := dkwX7_init_2_3 ++ dktX7_init_2_4
def dkwX7_init_2_2 : List UInt8 := [185, 0, 53, 1, 0, 192, 0, 31, 78, 42, 180, 0, 12, 187, 0, 31, 89, 45, 183, 0, 57, 182, 0, 36]
abbrev dktX7_init_2_2 : List UInt8 := dkwX7_init_2_2 ++ dktX7_init_2_3
def dkwX7_init_2_1 : List UInt8 := [180, 0, 22, 181, 0, 22, 43, 180, 0, 12, 182, 0, 43, 77, 44, 185, 0, 47, 1, 0, 153, 0, 32, 44]
abbrev dktX7_init_2_1 : List UInt8 := dkwX7_init_2_1 ++ dktX7_init_2_2
def dkwX7_init_2_0 : List UInt8 := [42, 183, 0, 3, 42, 187, 0, 9, 89, 183, 0, 11, 181, 0, 12, 42, 2, 181, 0, 18, 42, 43]
abbrev dktX7_init_2_0 : List UInt8 := dkwX7_init_2_0 ++ dktX7_init_2_1
theorem dksX7_init_2_0 : cX7_init_2.data.toList.drop 0 = dktX7_init_2_0 := by decide +kernel
theorem dksX7_init_2_1 : cX7_init_2.data.toList.drop 22 = dktX7_init_2_1 := dk_seg dksX7_init_2_0 22 rfl rfl
theorem dksX7_init_2_2 : cX7_init_2.data.toList.drop 46 = dktX7_init_2_2 := dk_seg dksX7_init_2_1 24 rfl rfl
theorem dksX7_init_2_3 : cX7_init_2.data.toList.drop 70 = dktX7_init_2_3 := dk_seg dksX7_init_2_2 24 rfl rfl
theorem dksX7_init_2_4 : cX7_init_2.data.toList.drop 92 = dktX7_init_2_4 := dk_seg dksX7_init_2_3 22 rfl rfl
theorem dX7_init_2_0 : decode cX7_init_2 0 = .ok (.aload_n 0, 1) := dk_42 (dk_at dksX7_init_2_0 0 rfl rfl)
theorem dX7_init_2_1 : decode cX7_init_2 1 = .ok (.invokespecial 3, 3) := dk_183 0 3 (dk_at dksX7_init_2_0 1 rfl rfl)
theorem dX7_init_2_4 : decode cX7_init_2 4 = .ok (.aload_n 0, 1) := dk_42 (dk_at dksX7_init_2_0 4 rfl rfl)
theorem dX7_init_2_5 : decode cX7_init_2 5 = .ok (.new 9, 3) := dk_187 0 9 (dk_at dksX7_init_2_0 5 rfl rfl)
theorem dX7_init_2_8 : decode cX7_init_2 8 = .ok (.dup, 1) := dk_89 (dk_at dksX7_init_2_0 8 rfl rfl)
theorem dX7_init_2_9 : decode cX7_init_2 9 = .ok (.invokespecial 11, 3) := dk_183 0 11 (dk_at dksX7_init_2_0 9 rfl rfl)
theorem dX7_init_2_12 : decode cX7_init_2 12 = .ok (.putfield 12, 3) := dk_181 0 12 (dk_at dksX7_init_2_0 12 rfl rfl)
theorem dX7_init_2_15 : decode cX7_init_2 15 = .ok (.aload_n 0, 1) := dk_42 (dk_at dksX7_init_2_0 15 rfl rfl)
theorem dX7_init_2_16 : decode cX7_init_2 16 = .ok (.iconst (-1), 1) := dk_2 (dk_at dksX7_init_2_0 16 rfl rfl)
theorem dX7_init_2_17 : decode cX7_init_2 17 = .ok (.putfield 18, 3) := dk_181 0 18 (dk_at dksX7_init_2_0 17 rfl rfl)
theorem dX7_init_2_20 : decode cX7_init_2 20 = .ok (.aload_n 0, 1) := dk_42 (dk_at dksX7_init_2_0 20 rfl rfl)
theorem dX7_init_2_21 : decode cX7_init_2 21 = .ok (.aload_n 1, 1) := dk_43 (dk_at dksX7_init_2_0 21 rfl rfl)
theorem dX7_init_2_22 : decode cX7_init_2 22 = .ok (.getfield 22, 3) := dk_180 0 22 (dk_at dksX7_init_2_1 0 rfl rfl)
theorem dX7_init_2_25 : decode cX7_init_2 25 = .ok (.putfield 22, 3) := dk_181 0 22 (dk_at dksX7_init_2_1 3 rfl rfl)
theorem dX7_init_2_28 : decode cX7_init_2 28 = .ok (.aload_n 1, 1) := dk_43 (dk_at dksX7_init_2_1 6 rfl rfl)
theorem dX7_init_2_29 : decode cX7_init_2 29 = .ok (.getfield 12, 3) := dk_180 0 12 (dk_at dksX7_init_2_1 7 rfl rfl)
theorem dX7_init_2_32 : decode cX7_init_2 32 = .ok (.invokevirtual 43, 3) := dk_182 0 43 (dk_at dksX7_init_2_1 10 rfl rfl)
theorem dX7_init_2_35 : decode cX7_init_2 35 = .ok (.astore_n 2, 1) := dk_77 (dk_at dksX7_init_2_1 13 rfl rfl)
theorem dX7_init_2_36 : decode cX7_init_2 36 = .ok (.aload_n 2, 1) := dk_44 (dk_at dksX7_init_2_1 14 rfl rfl)
theorem dX7_init_2_37 : decode cX7_init_2 37 = .ok (.invokeinterface 47 1, 5) := by decide +kernel
theorem dX7_init_2_42 : decode cX7_init_2 42 = .ok (.ifCond .eq 32, 3) := dk_153 0 32 (dk_at dksX7_init_2_1 20 rfl rfl)
theorem dX7_init_2_45 : decode cX7_init_2 45 = .ok (.aload_n 2, 1) := dk_44 (dk_at dksX7_init_2_1 23 rfl rfl)
theorem dX7_init_2_46 : decode cX7_init_2 46 = .ok (.invokeinterface 53 1, 5) := by decide +kernel
theorem dX7_init_2_51 : decode cX7_init_2 51 = .ok (.checkcast 31, 3) := dk_192 0 31 (dk_at dksX7_init_2_2 5 rfl rfl)
theorem dX7_init_2_54 : decode cX7_init_2 54 = .ok (.astore_n 3, 1) := dk_78 (dk_at dksX7_init_2_2 8 rfl rfl)
theorem dX7_init_2_55 : decode cX7_init_2 55 = .ok (.aload_n 0, 1) := dk_42 (dk_at dksX7_init_2_2 9 rfl rfl)
theorem dX7_init_2_56 : decode cX7_init_2 56 = .ok (.getfield 12, 3) := dk_180 0 12 (dk_at dksX7_init_2_2 10 rfl rfl)
theorem dX7_init_2_59 : decode cX7_init_2 59 = .ok (.new 31, 3) := dk_187 0 31 (dk_at dksX7_init_2_2 13 rfl rfl)
theorem dX7_init_2_62 : decode cX7_init_2 62 = .ok (.dup, 1) := dk_89 (dk_at dksX7_init_2_2 16 rfl rfl)
theorem dX7_init_2_63 : decode cX7_init_2 63 = .ok (.aload_n 3, 1) := dk_45 (dk_at dksX7_init_2_2 17 rfl rfl)
theorem dX7_init_2_64 : decode cX7_init_2 64 = .ok (.invokespecial 57, 3) := dk_183 0 57 (dk_at dksX7_init_2_2 18 rfl rfl)
theorem dX7_init_2_67 : decode cX7_init_2 67 = .ok (.invokevirtual 36, 3) := dk_182 0 36 (dk_at dksX7_init_2_2 21 rfl rfl)
theorem dX7_init_2_70 : decode cX7_init_2 70 = .ok (.pop, 1) := dk_87 (dk_at dksX7_init_2_3 0 rfl rfl)
theorem dX7_init_2_71 : decode cX7_init_2 71 = .ok (.goto (-35), 3) := dk_167 255 221 (dk_at dksX7_init_2_3 1 rfl rfl)
theorem dX7_init_2_74 : decode cX7_init_2 74 = .ok (.aload_n 0, 1) := dk_42 (dk_at dksX7_init_2_3 4 rfl rfl)
theorem dX7_init_2_75 : decode cX7_init_2 75 = .ok (.aload_n 1, 1) := dk_43 (dk_at dksX7_init_2_3 5 rfl rfl)
theorem dX7_init_2_76 : decode cX7_init_2 76 = .ok (.getfield 18, 3) := dk_180 0 18 (dk_at dksX7_init_2_3 6 rfl rfl)
theorem dX7_init_2_79 : decode cX7_init_2 79 = .ok (.putfield 18, 3) := dk_181 0 18 (dk_at dksX7_init_2_3 9 rfl rfl)
theorem dX7_init_2_82 : decode cX7_init_2 82 = .ok (.aload_n 0, 1) := dk_42 (dk_at dksX7_init_2_3 12 rfl rfl)
theorem dX7_init_2_83 : decode cX7_init_2 83 = .ok (.aload_n 1, 1) := dk_43 (dk_at dksX7_init_2_3 13 rfl rfl)
theorem dX7_init_2_84 : decode cX7_init_2 84 = .ok (.getfield 60, 3) := dk_180 0 60 (dk_at dksX7_init_2_3 14 rfl rfl)
theorem dX7_init_2_87 : decode cX7_init_2 87 = .ok (.putfield 60, 3) := dk_181 0 60 (dk_at dksX7_init_2_3 17 rfl rfl)
theorem dX7_init_2_90 : decode cX7_init_2 90 = .ok (.aload_n 0, 1) := dk_42 (dk_at dksX7_init_2_3 20 rfl rfl)
theorem dX7_init_2_91 : decode cX7_init_2 91 = .ok (.aload_n 1, 1) := dk_43 (dk_at dksX7_init_2_3 21 rfl rfl)
theorem dX7_init_2_92 : decode cX7_init_2 92 = .ok (.getfield 63, 3) := dk_180 0 63 (dk_at dksX7_init_2_4 0 rfl rfl)
theorem dX7_init_2_95 : decode cX7_init_2 95 = .ok (.putfield 63, 3) := dk_181 0 63 (dk_at dksX7_init_2_4 3 rfl rfl)
theorem dX7_init_2_98 : decode cX7_init_2 98 = .ok (.return_, 1) := dk_177 (dk_at dksX7_init_2_4 6 rfl rfl)
theorem q129 : (Jvm.Cond.initialized "MaskedEars$Test") ∈ lw_all := lw_g (lw_at lw_m1 24 rfl) rfl
theorem q258 : (Jvm.Cond.fieldLinkNest "MaskedEars$Test" (26 : Nat) "MaskedEars$Told" "tones" "I" "MaskedEars") ∈ lw_tbl := lw_at lw_m1 153 rfl
theorem q262 : (Jvm.Cond.fieldLinkNest "MaskedEars$Test" (90 : Nat) "MaskedEars$Told" "across" "I" "MaskedEars") ∈ lw_tbl := lw_at lw_m1 157 rfl
theorem q265 : (Jvm.Cond.fieldLinkNest "MaskedEars$Test" (109 : Nat) "MaskedEars$Told" "gap" "I" "MaskedEars") ∈ lw_tbl := lw_at lw_m1 160 rfl
theorem q615 : (Jvm.Cond.selects "MaskedEars$Test" ({ cls := "java/lang/Object", name := "getClass", desc := "()Ljava/lang/Class;" } : Jvm.MethodName) ({ cls := "java/lang/Object", name := "getClass", desc := "()Ljava/lang/Class;" } : Jvm.MethodName)) ∈ lw_all := lw_g (lw_at lw_m3 30 rfl) rfl
theorem q639 : (Jvm.Cond.instantiable "MaskedEars$Test" (5 : Nat)) ∈ lw_all := lw_g (lw_at lw_m3 54 rfl) rfl
theorem q641 : (Jvm.Cond.instanceMethod ({ cls := "MaskedEars$Test", name := "<init>", desc := "(LMaskedEars$Told;)V" } : Jvm.MethodName)) ∈ lw_all := lw_g (lw_at lw_m3 56 rfl) rfl
theorem q642 : (Jvm.Cond.code ({ cls := "MaskedEars$Test", name := "<init>", desc := "(LMaskedEars$Told;)V" } : Jvm.MethodName) prog_10_method_1_code (5 : Nat) (Option.none : Option Jvm.ClassFile.FieldType)) ∈ lw_all := lw_g (lw_at lw_m3 57 rfl) rfl
theorem q643 : (Jvm.Cond.methodLink "MaskedEars$Test" (3 : Nat) ({ cls := "java/lang/Object", name := "<init>", desc := "()V" } : Jvm.MethodName)) ∈ lw_all := lw_g (lw_at lw_m3 58 rfl) rfl
theorem q644 : (Jvm.Cond.classLink "MaskedEars$Test" (9 : Nat) "java/util/ArrayList") ∈ lw_all := lw_g (lw_at lw_m3 59 rfl) rfl
theorem q645 : (Jvm.Cond.methodLink "MaskedEars$Test" (11 : Nat) ({ cls := "java/util/ArrayList", name := "<init>", desc := "()V" } : Jvm.MethodName)) ∈ lw_all := lw_g (lw_at lw_m3 60 rfl) rfl
theorem q646 : (Jvm.Cond.classLink "MaskedEars$Test" (31 : Nat) "MaskedEars$Task") ∈ lw_all := lw_g (lw_at lw_m3 61 rfl) rfl
theorem q648 : (Jvm.Cond.methodLink "MaskedEars$Test" (33 : Nat) ({ cls := "MaskedEars$Task", name := "<init>", desc := "(IIIZ)V" } : Jvm.MethodName)) ∈ lw_all := lw_g (lw_at lw_m3 63 rfl) rfl
theorem q653 : (Jvm.Cond.fieldLinkNest "MaskedEars$Test" (67 : Nat) "MaskedEars$Task" "route" "I" "MaskedEars") ∈ lw_tbl := lw_at lw_m3 68 rfl
theorem q656 : (Jvm.Cond.fieldLinkNest "MaskedEars$Test" (70 : Nat) "MaskedEars$Task" "ear" "I" "MaskedEars") ∈ lw_tbl := lw_at lw_m3 71 rfl
theorem q659 : (Jvm.Cond.fieldLinkNest "MaskedEars$Test" (73 : Nat) "MaskedEars$Task" "tone" "I" "MaskedEars") ∈ lw_tbl := lw_at lw_m3 74 rfl
theorem q662 : (Jvm.Cond.fieldLinkNest "MaskedEars$Test" (76 : Nat) "MaskedEars$Task" "isMasked" "Z" "MaskedEars") ∈ lw_tbl := lw_at lw_m3 77 rfl
theorem q665 : (Jvm.Cond.fieldLinkNest "MaskedEars$Test" (102 : Nat) "MaskedEars$Task" "state" "I" "MaskedEars") ∈ lw_tbl := lw_at lw_m3 80 rfl
theorem q668 : (Jvm.Cond.fieldLinkNest "MaskedEars$Test" (87 : Nat) "MaskedEars$Task" "threshold" "I" "MaskedEars") ∈ lw_tbl := lw_at lw_m3 83 rfl
theorem q681 : (Jvm.Cond.fieldLinkNest "MaskedEars$Test" (160 : Nat) "MaskedEars$Task" "noise" "I" "MaskedEars") ∈ lw_tbl := lw_at lw_m3 96 rfl
theorem q687 : (Jvm.Cond.fieldLinkNest "MaskedEars$Test" (151 : Nat) "MaskedEars$Task" "search" "LMaskedEars$Search;" "MaskedEars") ∈ lw_tbl := lw_at lw_m3 102 rfl
theorem q720 : (Jvm.Cond.methodLink "MaskedEars$Test" (36 : Nat) ({ cls := "java/util/ArrayList", name := "add", desc := "(Ljava/lang/Object;)Z" } : Jvm.MethodName)) ∈ lw_all := lw_g (lw_at lw_m3 135 rfl) rfl
theorem q721 : (Jvm.Cond.methodLink "MaskedEars$Test" (40 : Nat) ({ cls := "MaskedEars$Test", name := "goesOn", desc := "()V" } : Jvm.MethodName)) ∈ lw_all := lw_g (lw_at lw_m3 136 rfl) rfl
theorem q722 : (Jvm.Cond.instanceMethod ({ cls := "MaskedEars$Test", name := "goesOn", desc := "()V" } : Jvm.MethodName)) ∈ lw_all := lw_g (lw_at lw_m3 137 rfl) rfl
theorem q723 : (Jvm.Cond.selects "MaskedEars$Test" ({ cls := "MaskedEars$Test", name := "goesOn", desc := "()V" } : Jvm.MethodName) ({ cls := "MaskedEars$Test", name := "goesOn", desc := "()V" } : Jvm.MethodName)) ∈ lw_all := lw_g (lw_at lw_m3 138 rfl) rfl
theorem q724 : (Jvm.Cond.code ({ cls := "MaskedEars$Test", name := "goesOn", desc := "()V" } : Jvm.MethodName) prog_10_method_11_code (2 : Nat) (Option.none : Option Jvm.ClassFile.FieldType)) ∈ lw_all := lw_g (lw_at lw_m3 139 rfl) rfl
theorem q725 : (Jvm.Cond.methodLink "MaskedEars$Test" (124 : Nat) ({ cls := "MaskedEars$Test", name := "nextTask", desc := "()I" } : Jvm.MethodName)) ∈ lw_all := lw_g (lw_at lw_m3 140 rfl) rfl
theorem q726 : (Jvm.Cond.privateMethod ({ cls := "MaskedEars$Test", name := "nextTask", desc := "()I" } : Jvm.MethodName)) ∈ lw_tbl := lw_at lw_m3 141 rfl
theorem q727 : (Jvm.Cond.instanceMethod ({ cls := "MaskedEars$Test", name := "nextTask", desc := "()I" } : Jvm.MethodName)) ∈ lw_all := lw_g (lw_at lw_m3 142 rfl) rfl
theorem q728 : (Jvm.Cond.code ({ cls := "MaskedEars$Test", name := "nextTask", desc := "()I" } : Jvm.MethodName) prog_10_method_10_code (2 : Nat) (Option.some Jvm.ClassFile.FieldType.int)) ∈ lw_all := lw_g (lw_at lw_m3 143 rfl) rfl
theorem q729 : (Jvm.Cond.methodLink "MaskedEars$Test" (116 : Nat) ({ cls := "java/util/ArrayList", name := "size", desc := "()I" } : Jvm.MethodName)) ∈ lw_all := lw_g (lw_at lw_m3 144 rfl) rfl
theorem q730 : (Jvm.Cond.methodLink "MaskedEars$Test" (120 : Nat) ({ cls := "java/util/ArrayList", name := "get", desc := "(I)Ljava/lang/Object;" } : Jvm.MethodName)) ∈ lw_all := lw_g (lw_at lw_m3 145 rfl) rfl
theorem q731 : (Jvm.Cond.methodLink "MaskedEars$Test" (127 : Nat) ({ cls := "MaskedEars$Test", name := "masks", desc := "()V" } : Jvm.MethodName)) ∈ lw_all := lw_g (lw_at lw_m3 146 rfl) rfl
theorem q732 : (Jvm.Cond.privateMethod ({ cls := "MaskedEars$Test", name := "masks", desc := "()V" } : Jvm.MethodName)) ∈ lw_tbl := lw_at lw_m3 147 rfl
theorem q733 : (Jvm.Cond.instanceMethod ({ cls := "MaskedEars$Test", name := "masks", desc := "()V" } : Jvm.MethodName)) ∈ lw_all := lw_g (lw_at lw_m3 148 rfl) rfl
theorem q734 : (Jvm.Cond.code ({ cls := "MaskedEars$Test", name := "masks", desc := "()V" } : Jvm.MethodName) prog_10_method_9_code (4 : Nat) (Option.none : Option Jvm.ClassFile.FieldType)) ∈ lw_all := lw_g (lw_at lw_m3 149 rfl) rfl
theorem q735 : (Jvm.Cond.methodLink "MaskedEars$Test" (112 : Nat) ({ cls := "MaskedEars$Test", name := "needs", desc := "(III)Z" } : Jvm.MethodName)) ∈ lw_all := lw_g (lw_at lw_m3 150 rfl) rfl
theorem q736 : (Jvm.Cond.instanceMethod ({ cls := "MaskedEars$Test", name := "needs", desc := "(III)Z" } : Jvm.MethodName)) ∈ lw_all := lw_g (lw_at lw_m3 151 rfl) rfl
theorem q737 : (Jvm.Cond.selects "MaskedEars$Test" ({ cls := "MaskedEars$Test", name := "needs", desc := "(III)Z" } : Jvm.MethodName) ({ cls := "MaskedEars$Test", name := "needs", desc := "(III)Z" } : Jvm.MethodName)) ∈ lw_all := lw_g (lw_at lw_m3 152 rfl) rfl
theorem q738 : (Jvm.Cond.code ({ cls := "MaskedEars$Test", name := "needs", desc := "(III)Z" } : Jvm.MethodName) prog_10_method_8_code (5 : Nat) (Option.some Jvm.ClassFile.FieldType.boolean)) ∈ lw_all := lw_g (lw_at lw_m3 153 rfl) rfl
theorem q739 : (Jvm.Cond.methodLink "MaskedEars$Test" (105 : Nat) ({ cls := "MaskedEars$Test", name := "areThrough", desc := "(IZ)Z" } : Jvm.MethodName)) ∈ lw_all := lw_g (lw_at lw_m3 154 rfl) rfl
theorem q740 : (Jvm.Cond.instanceMethod ({ cls := "MaskedEars$Test", name := "areThrough", desc := "(IZ)Z" } : Jvm.MethodName)) ∈ lw_all := lw_g (lw_at lw_m3 155 rfl) rfl
theorem q741 : (Jvm.Cond.selects "MaskedEars$Test" ({ cls := "MaskedEars$Test", name := "areThrough", desc := "(IZ)Z" } : Jvm.MethodName) ({ cls := "MaskedEars$Test", name := "areThrough", desc := "(IZ)Z" } : Jvm.MethodName)) ∈ lw_all := lw_g (lw_at lw_m3 156 rfl) rfl
theorem q742 : (Jvm.Cond.code ({ cls := "MaskedEars$Test", name := "areThrough", desc := "(IZ)Z" } : Jvm.MethodName) prog_10_method_7_code (5 : Nat) (Option.some Jvm.ClassFile.FieldType.boolean)) ∈ lw_all := lw_g (lw_at lw_m3 157 rfl) rfl
theorem q743 : (Jvm.Cond.methodLink "MaskedEars$Test" (83 : Nat) ({ cls := "MaskedEars$Test", name := "plain", desc := "(III)LMaskedEars$Task;" } : Jvm.MethodName)) ∈ lw_all := lw_g (lw_at lw_m3 158 rfl) rfl
theorem q744 : (Jvm.Cond.instanceMethod ({ cls := "MaskedEars$Test", name := "plain", desc := "(III)LMaskedEars$Task;" } : Jvm.MethodName)) ∈ lw_all := lw_g (lw_at lw_m3 159 rfl) rfl
theorem q745 : (Jvm.Cond.selects "MaskedEars$Test" ({ cls := "MaskedEars$Test", name := "plain", desc := "(III)LMaskedEars$Task;" } : Jvm.MethodName) ({ cls := "MaskedEars$Test", name := "plain", desc := "(III)LMaskedEars$Task;" } : Jvm.MethodName)) ∈ lw_all := lw_g (lw_at lw_m3 160 rfl) rfl
theorem q746 : (Jvm.Cond.code ({ cls := "MaskedEars$Test", name := "plain", desc := "(III)LMaskedEars$Task;" } : Jvm.MethodName) prog_10_method_4_code (4 : Nat) (Option.some (Jvm.ClassFile.FieldType.object "MaskedEars$Task"))) ∈ lw_all := lw_g (lw_at lw_m3 161 rfl) rfl
theorem q747 : (Jvm.Cond.methodLink "MaskedEars$Test" (79 : Nat) ({ cls := "MaskedEars$Test", name := "find", desc := "(IIIZ)LMaskedEars$Task;" } : Jvm.MethodName)) ∈ lw_all := lw_g (lw_at lw_m3 162 rfl) rfl
theorem q748 : (Jvm.Cond.instanceMethod ({ cls := "MaskedEars$Test", name := "find", desc := "(IIIZ)LMaskedEars$Task;" } : Jvm.MethodName)) ∈ lw_all := lw_g (lw_at lw_m3 163 rfl) rfl
theorem q749 : (Jvm.Cond.selects "MaskedEars$Test" ({ cls := "MaskedEars$Test", name := "find", desc := "(IIIZ)LMaskedEars$Task;" } : Jvm.MethodName) ({ cls := "MaskedEars$Test", name := "find", desc := "(IIIZ)LMaskedEars$Task;" } : Jvm.MethodName)) ∈ lw_all := lw_g (lw_at lw_m3 164 rfl) rfl
theorem q750 : (Jvm.Cond.code ({ cls := "MaskedEars$Test", name := "find", desc := "(IIIZ)LMaskedEars$Task;" } : Jvm.MethodName) prog_10_method_3_code (7 : Nat) (Option.some (Jvm.ClassFile.FieldType.object "MaskedEars$Task"))) ∈ lw_all := lw_g (lw_at lw_m3 165 rfl) rfl
theorem q751 : (Jvm.Cond.methodLink "MaskedEars$Test" (43 : Nat) ({ cls := "java/util/ArrayList", name := "iterator", desc := "()Ljava/util/Iterator;" } : Jvm.MethodName)) ∈ lw_all := lw_g (lw_at lw_m3 166 rfl) rfl
theorem q774 : (Jvm.Cond.interfaceEntry "MaskedEars$Test" (47 : Nat)) ∈ lw_tbl := lw_at lw_m3 189 rfl
theorem q775 : (Jvm.Cond.methodLink "MaskedEars$Test" (47 : Nat) ({ cls := "java/util/Iterator", name := "hasNext", desc := "()Z" } : Jvm.MethodName)) ∈ lw_all := lw_g (lw_at lw_m3 190 rfl) rfl
theorem q784 : (Jvm.Cond.interfaceEntry "MaskedEars$Test" (53 : Nat)) ∈ lw_tbl := lw_at lw_m3 199 rfl
theorem q785 : (Jvm.Cond.methodLink "MaskedEars$Test" (53 : Nat) ({ cls := "java/util/Iterator", name := "next", desc := "()Ljava/lang/Object;" } : Jvm.MethodName)) ∈ lw_all := lw_g (lw_at lw_m3 200 rfl) rfl
theorem q820 : (Jvm.Cond.methodLink "MaskedEars$Test" (99 : Nat) ({ cls := "MaskedEars$Task", name := "isThrough", desc := "()Z" } : Jvm.MethodName)) ∈ lw_all := lw_g (lw_at lw_m3 235 rfl) rfl
theorem q824 : (Jvm.Cond.methodLink "MaskedEars$Test" (93 : Nat) ({ cls := "java/lang/Math", name := "min", desc := "(II)I" } : Jvm.MethodName)) ∈ lw_all := lw_g (lw_at lw_m3 239 rfl) rfl
theorem q825 : (Jvm.Cond.methodLink "MaskedEars$Test" (130 : Nat) ({ cls := "MaskedEars$Test", name := "begins", desc := "(I)Z" } : Jvm.MethodName)) ∈ lw_all := lw_g (lw_at lw_m4 0 rfl) rfl
theorem q826 : (Jvm.Cond.instanceMethod ({ cls := "MaskedEars$Test", name := "begins", desc := "(I)Z" } : Jvm.MethodName)) ∈ lw_all := lw_g (lw_at lw_m4 1 rfl) rfl
theorem q827 : (Jvm.Cond.selects "MaskedEars$Test" ({ cls := "MaskedEars$Test", name := "begins", desc := "(I)Z" } : Jvm.MethodName) ({ cls := "MaskedEars$Test", name := "begins", desc := "(I)Z" } : Jvm.MethodName)) ∈ lw_all := lw_g (lw_at lw_m4 2 rfl) rfl
theorem q828 : (Jvm.Cond.codeWith ({ cls := "MaskedEars$Test", name := "begins", desc := "(I)Z" } : Jvm.MethodName) prog_10_method_12_code (3 : Nat) (Option.some Jvm.ClassFile.FieldType.boolean) [((0 : Nat), (21 : Nat), (22 : Nat), (137 : Nat))]) ∈ lw_all := lw_g (lw_at lw_m4 3 rfl) rfl
theorem q829 : (Jvm.Cond.classLink "MaskedEars$Test" (137 : Nat) "MaskedEars$Unproved") ∈ lw_all := lw_g (lw_at lw_m4 4 rfl) rfl
theorem q830 : (Jvm.Cond.methodLink "MaskedEars$Test" (134 : Nat) ({ cls := "MaskedEars$Task", name := "begins", desc := "(LMaskedEars$Test;)V" } : Jvm.MethodName)) ∈ lw_all := lw_g (lw_at lw_m4 5 rfl) rfl
theorem q853 : (Jvm.Cond.fieldLinkNest "MaskedEars$Test" (155 : Nat) "MaskedEars$Search" "level" "I" "MaskedEars") ∈ lw_tbl := lw_at lw_m4 28 rfl
theorem q905 : (Jvm.Cond.instanceMethod ({ cls := "MaskedEars$Test", name := "first", desc := "(II)I" } : Jvm.MethodName)) ∈ lw_all := lw_g (lw_at lw_m4 80 rfl) rfl
theorem q906 : (Jvm.Cond.selects "MaskedEars$Test" ({ cls := "MaskedEars$Test", name := "first", desc := "(II)I" } : Jvm.MethodName) ({ cls := "MaskedEars$Test", name := "first", desc := "(II)I" } : Jvm.MethodName)) ∈ lw_all := lw_g (lw_at lw_m4 81 rfl) rfl
theorem q907 : (Jvm.Cond.code ({ cls := "MaskedEars$Test", name := "first", desc := "(II)I" } : Jvm.MethodName) prog_10_method_5_code (3 : Nat) (Option.some Jvm.ClassFile.FieldType.int)) ∈ lw_all := lw_g (lw_at lw_m4 82 rfl) rfl
theorem q914 : (Jvm.Cond.instanceMethod ({ cls := "MaskedEars$Test", name := "bound", desc := "(II)I" } : Jvm.MethodName)) ∈ lw_all := lw_g (lw_at lw_m4 89 rfl) rfl
theorem q915 : (Jvm.Cond.selects "MaskedEars$Test" ({ cls := "MaskedEars$Test", name := "bound", desc := "(II)I" } : Jvm.MethodName) ({ cls := "MaskedEars$Test", name := "bound", desc := "(II)I" } : Jvm.MethodName)) ∈ lw_all := lw_g (lw_at lw_m4 90 rfl) rfl
theorem q916 : (Jvm.Cond.code ({ cls := "MaskedEars$Test", name := "bound", desc := "(II)I" } : Jvm.MethodName) prog_10_method_6_code (3 : Nat) (Option.some Jvm.ClassFile.FieldType.int)) ∈ lw_all := lw_g (lw_at lw_m4 91 rfl) rfl
theorem q936 : (Jvm.Cond.methodLink "MaskedEars$Test" (139 : Nat) ({ cls := "MaskedEars$Unproved", name := "state", desc := "()I" } : Jvm.MethodName)) ∈ lw_all := lw_g (lw_at lw_m4 111 rfl) rfl
theorem q947 : (Jvm.Cond.fieldLink "MaskedEars$Test" (22 : Nat) "MaskedEars$Test" "told" "LMaskedEars$Told;") ∈ lw_all := lw_g (lw_at lw_m4 122 rfl) rfl
theorem q949 : (Jvm.Cond.fieldLink "MaskedEars$Test" (12 : Nat) "MaskedEars$Test" "tasks" "Ljava/util/ArrayList;") ∈ lw_all := lw_g (lw_at lw_m4 124 rfl) rfl
theorem q951 : (Jvm.Cond.fieldLink "MaskedEars$Test" (18 : Nat) "MaskedEars$Test" "on" "I") ∈ lw_all := lw_g (lw_at lw_m4 126 rfl) rfl
theorem q953 : (Jvm.Cond.fieldLink "MaskedEars$Test" (60 : Nat) "MaskedEars$Test" "many" "I") ∈ lw_all := lw_g (lw_at lw_m4 128 rfl) rfl
theorem q955 : (Jvm.Cond.fieldLink "MaskedEars$Test" (63 : Nat) "MaskedEars$Test" "hasMasked" "Z") ∈ lw_all := lw_g (lw_at lw_m4 130 rfl) rfl
theorem q956 : (Jvm.Cond.laysFinal "MaskedEars$Test" "MaskedEars$Test" "told" "LMaskedEars$Told;") ∈ lw_all := lw_g (lw_at lw_m4 131 rfl) rfl
theorem q957 : (Jvm.Cond.soleField "MaskedEars$Test" "told") ∈ lw_all := lw_g (lw_at lw_m4 132 rfl) rfl
theorem q958 : (Jvm.Cond.laysFinal "MaskedEars$Test" "MaskedEars$Test" "tasks" "Ljava/util/ArrayList;") ∈ lw_all := lw_g (lw_at lw_m4 133 rfl) rfl
theorem q959 : (Jvm.Cond.soleField "MaskedEars$Test" "tasks") ∈ lw_all := lw_g (lw_at lw_m4 134 rfl) rfl
theorem q960 : (Jvm.Cond.lays "MaskedEars$Test" "MaskedEars$Test" "on" "I") ∈ lw_all := lw_g (lw_at lw_m4 135 rfl) rfl
theorem q961 : (Jvm.Cond.soleField "MaskedEars$Test" "on") ∈ lw_all := lw_g (lw_at lw_m4 136 rfl) rfl
theorem q962 : (Jvm.Cond.lays "MaskedEars$Test" "MaskedEars$Test" "many" "I") ∈ lw_all := lw_g (lw_at lw_m4 137 rfl) rfl
theorem q963 : (Jvm.Cond.soleField "MaskedEars$Test" "many") ∈ lw_all := lw_g (lw_at lw_m4 138 rfl) rfl
theorem q964 : (Jvm.Cond.lays "MaskedEars$Test" "MaskedEars$Test" "hasMasked" "Z") ∈ lw_all := lw_g (lw_at lw_m4 139 rfl) rfl
theorem q965 : (Jvm.Cond.soleField "MaskedEars$Test" "hasMasked") ∈ lw_all := lw_g (lw_at lw_m4 140 rfl) rfl
theorem q966 : (Jvm.Cond.superclass "MaskedEars$Test" "java/lang/Object") ∈ lw_all := lw_g (lw_at lw_m4 141 rfl) rfl
theorem q985 : (Jvm.Cond.instanceMethod ({ cls := "MaskedEars$Test", name := "through", desc := "()I" } : Jvm.MethodName)) ∈ lw_all := lw_g (lw_at lw_m4 160 rfl) rfl
theorem q986 : (Jvm.Cond.selects "MaskedEars$Test" ({ cls := "MaskedEars$Test", name := "through", desc := "()I" } : Jvm.MethodName) ({ cls := "MaskedEars$Test", name := "through", desc := "()I" } : Jvm.MethodName)) ∈ lw_all := lw_g (lw_at lw_m4 161 rfl) rfl
theorem q987 : (Jvm.Cond.code ({ cls := "MaskedEars$Test", name := "through", desc := "()I" } : Jvm.MethodName) prog_10_method_17_code (4 : Nat) (Option.some Jvm.ClassFile.FieldType.int)) ∈ lw_all := lw_g (lw_at lw_m4 162 rfl) rfl
theorem q1153 : (Jvm.Cond.instanceMethod ({ cls := "MaskedEars$Test", name := "takes", desc := "(Z)I" } : Jvm.MethodName)) ∈ lw_all := lw_g (lw_at lw_m5 88 rfl) rfl
theorem q1154 : (Jvm.Cond.selects "MaskedEars$Test" ({ cls := "MaskedEars$Test", name := "takes", desc := "(Z)I" } : Jvm.MethodName) ({ cls := "MaskedEars$Test", name := "takes", desc := "(Z)I" } : Jvm.MethodName)) ∈ lw_all := lw_g (lw_at lw_m5 89 rfl) rfl
theorem q1155 : (Jvm.Cond.codeWith ({ cls := "MaskedEars$Test", name := "takes", desc := "(Z)I" } : Jvm.MethodName) prog_10_method_14_code (4 : Nat) (Option.some Jvm.ClassFile.FieldType.int) [((25 : Nat), (45 : Nat), (46 : Nat), (137 : Nat))]) ∈ lw_all := lw_g (lw_at lw_m5 90 rfl) rfl
theorem q1156 : (Jvm.Cond.methodLink "MaskedEars$Test" (141 : Nat) ({ cls := "MaskedEars$Task", name := "takes", desc := "(LMaskedEars$Test;Z)I" } : Jvm.MethodName)) ∈ lw_all := lw_g (lw_at lw_m5 91 rfl) rfl
theorem q1169 : (Jvm.Cond.methodLink "MaskedEars$Test" (145 : Nat) ({ cls := "MaskedEars$Test", name := "ended", desc := "()I" } : Jvm.MethodName)) ∈ lw_all := lw_g (lw_at lw_m5 104 rfl) rfl
theorem q1170 : (Jvm.Cond.privateMethod ({ cls := "MaskedEars$Test", name := "ended", desc := "()I" } : Jvm.MethodName)) ∈ lw_tbl := lw_at lw_m5 105 rfl
theorem q1171 : (Jvm.Cond.instanceMethod ({ cls := "MaskedEars$Test", name := "ended", desc := "()I" } : Jvm.MethodName)) ∈ lw_all := lw_g (lw_at lw_m5 106 rfl) rfl
theorem q1172 : (Jvm.Cond.code ({ cls := "MaskedEars$Test", name := "ended", desc := "()I" } : Jvm.MethodName) prog_10_method_13_code (1 : Nat) (Option.some Jvm.ClassFile.FieldType.int)) ∈ lw_all := lw_g (lw_at lw_m5 107 rfl) rfl
theorem q1182 : (Jvm.Cond.instanceMethod ({ cls := "MaskedEars$Test", name := "hears", desc := "()Z" } : Jvm.MethodName)) ∈ lw_all := lw_g (lw_at lw_m5 117 rfl) rfl
theorem q1183 : (Jvm.Cond.selects "MaskedEars$Test" ({ cls := "MaskedEars$Test", name := "hears", desc := "()Z" } : Jvm.MethodName) ({ cls := "MaskedEars$Test", name := "hears", desc := "()Z" } : Jvm.MethodName)) ∈ lw_all := lw_g (lw_at lw_m5 118 rfl) rfl
theorem q1184 : (Jvm.Cond.code ({ cls := "MaskedEars$Test", name := "hears", desc := "()Z" } : Jvm.MethodName) prog_10_method_16_code (2 : Nat) (Option.some Jvm.ClassFile.FieldType.boolean)) ∈ lw_all := lw_g (lw_at lw_m5 119 rfl) rfl
theorem q1185 : (Jvm.Cond.methodLink "MaskedEars$Test" (163 : Nat) ({ cls := "MaskedEars$Told", name := "hears", desc := "(IIIII)Z" } : Jvm.MethodName)) ∈ lw_all := lw_g (lw_at lw_m5 120 rfl) rfl
theorem q1214 : (Jvm.Cond.selects "MaskedEars$Test" ({ cls := "java/lang/Object", name := "equals", desc := "(Ljava/lang/Object;)Z" } : Jvm.MethodName) ({ cls := "java/lang/Object", name := "equals", desc := "(Ljava/lang/Object;)Z" } : Jvm.MethodName)) ∈ lw_all := lw_g (lw_at lw_m5 149 rfl) rfl
theorem q1239 : (Jvm.Cond.instanceMethod ({ cls := "MaskedEars$Test", name := "gives", desc := "()I" } : Jvm.MethodName)) ∈ lw_all := lw_g (lw_at lw_m5 174 rfl) rfl
theorem q1240 : (Jvm.Cond.selects "MaskedEars$Test" ({ cls := "MaskedEars$Test", name := "gives", desc := "()I" } : Jvm.MethodName) ({ cls := "MaskedEars$Test", name := "gives", desc := "()I" } : Jvm.MethodName)) ∈ lw_all := lw_g (lw_at lw_m5 175 rfl) rfl
theorem q1241 : (Jvm.Cond.code ({ cls := "MaskedEars$Test", name := "gives", desc := "()I" } : Jvm.MethodName) prog_10_method_15_code (2 : Nat) (Option.some Jvm.ClassFile.FieldType.int)) ∈ lw_all := lw_g (lw_at lw_m5 176 rfl) rfl
theorem q1242 : (Jvm.Cond.methodLinkNest "MaskedEars$Test" (148 : Nat) ({ cls := "MaskedEars$Task", name := "ends", desc := "()V" } : Jvm.MethodName) "MaskedEars") ∈ lw_tbl := lw_at lw_m5 177 rfl
theorem q1267 : (Jvm.Cond.instanceMethod ({ cls := "MaskedEars$Test", name := "doubts", desc := "(II)I" } : Jvm.MethodName)) ∈ lw_all := lw_g (lw_at lw_m5 202 rfl) rfl
theorem q1268 : (Jvm.Cond.selects "MaskedEars$Test" ({ cls := "MaskedEars$Test", name := "doubts", desc := "(II)I" } : Jvm.MethodName) ({ cls := "MaskedEars$Test", name := "doubts", desc := "(II)I" } : Jvm.MethodName)) ∈ lw_all := lw_g (lw_at lw_m5 203 rfl) rfl
theorem q1269 : (Jvm.Cond.code ({ cls := "MaskedEars$Test", name := "doubts", desc := "(II)I" } : Jvm.MethodName) prog_10_method_20_code (8 : Nat) (Option.some Jvm.ClassFile.FieldType.int)) ∈ lw_all := lw_g (lw_at lw_m5 204 rfl) rfl
theorem q1270 : (Jvm.Cond.methodLink "MaskedEars$Test" (171 : Nat) ({ cls := "MaskedEars$Test", name := "isBelow", desc := "(LMaskedEars$Task;LMaskedEars$Task;)Z" } : Jvm.MethodName)) ∈ lw_all := lw_g (lw_at lw_m5 205 rfl) rfl
theorem q1271 : (Jvm.Cond.privateMethod ({ cls := "MaskedEars$Test", name := "isBelow", desc := "(LMaskedEars$Task;LMaskedEars$Task;)Z" } : Jvm.MethodName)) ∈ lw_tbl := lw_at lw_m5 206 rfl
theorem q1272 : (Jvm.Cond.instanceMethod ({ cls := "MaskedEars$Test", name := "isBelow", desc := "(LMaskedEars$Task;LMaskedEars$Task;)Z" } : Jvm.MethodName)) ∈ lw_all := lw_g (lw_at lw_m5 207 rfl) rfl
theorem q1273 : (Jvm.Cond.code ({ cls := "MaskedEars$Test", name := "isBelow", desc := "(LMaskedEars$Task;LMaskedEars$Task;)Z" } : Jvm.MethodName) prog_10_method_19_code (3 : Nat) (Option.some Jvm.ClassFile.FieldType.boolean)) ∈ lw_all := lw_g (lw_at lw_m5 208 rfl) rfl
theorem q1274 : (Jvm.Cond.methodLink "MaskedEars$Test" (167 : Nat) ({ cls := "MaskedEars$Test", name := "isProved", desc := "(LMaskedEars$Task;)Z" } : Jvm.MethodName)) ∈ lw_all := lw_g (lw_at lw_m5 209 rfl) rfl
theorem q1275 : (Jvm.Cond.privateMethod ({ cls := "MaskedEars$Test", name := "isProved", desc := "(LMaskedEars$Task;)Z" } : Jvm.MethodName)) ∈ lw_tbl := lw_at lw_m5 210 rfl
theorem q1276 : (Jvm.Cond.instanceMethod ({ cls := "MaskedEars$Test", name := "isProved", desc := "(LMaskedEars$Task;)Z" } : Jvm.MethodName)) ∈ lw_all := lw_g (lw_at lw_m5 211 rfl) rfl
theorem q1277 : (Jvm.Cond.code ({ cls := "MaskedEars$Test", name := "isProved", desc := "(LMaskedEars$Task;)Z" } : Jvm.MethodName) prog_10_method_18_code (2 : Nat) (Option.some Jvm.ClassFile.FieldType.boolean)) ∈ lw_all := lw_g (lw_at lw_m5 212 rfl) rfl
theorem q1278 : (Jvm.Cond.methodLink "MaskedEars$Test" (175 : Nat) ({ cls := "MaskedEars$Test", name := "told", desc := "(III)I" } : Jvm.MethodName)) ∈ lw_all := lw_g (lw_at lw_m5 213 rfl) rfl
theorem q1279 : (Jvm.Cond.instanceMethod ({ cls := "MaskedEars$Test", name := "told", desc := "(III)I" } : Jvm.MethodName)) ∈ lw_all := lw_g (lw_at lw_m5 214 rfl) rfl
theorem q1280 : (Jvm.Cond.selects "MaskedEars$Test" ({ cls := "MaskedEars$Test", name := "told", desc := "(III)I" } : Jvm.MethodName) ({ cls := "MaskedEars$Test", name := "told", desc := "(III)I" } : Jvm.MethodName)) ∈ lw_all := lw_g (lw_at lw_m5 215 rfl) rfl
theorem q1281 : (Jvm.Cond.code ({ cls := "MaskedEars$Test", name := "told", desc := "(III)I" } : Jvm.MethodName) prog_10_method_23_code (6 : Nat) (Option.some Jvm.ClassFile.FieldType.int)) ∈ lw_all := lw_g (lw_at lw_m5 216 rfl) rfl
theorem q1287 : (Jvm.Cond.instanceMethod ({ cls := "MaskedEars$Test", name := "isDoubtful", desc := "(I)Z" } : Jvm.MethodName)) ∈ lw_all := lw_g (lw_at lw_m5 222 rfl) rfl
theorem q1288 : (Jvm.Cond.selects "MaskedEars$Test" ({ cls := "MaskedEars$Test", name := "isDoubtful", desc := "(I)Z" } : Jvm.MethodName) ({ cls := "MaskedEars$Test", name := "isDoubtful", desc := "(I)Z" } : Jvm.MethodName)) ∈ lw_all := lw_g (lw_at lw_m5 223 rfl) rfl
theorem q1289 : (Jvm.Cond.code ({ cls := "MaskedEars$Test", name := "isDoubtful", desc := "(I)Z" } : Jvm.MethodName) prog_10_method_21_code (2 : Nat) (Option.some Jvm.ClassFile.FieldType.boolean)) ∈ lw_all := lw_g (lw_at lw_m5 224 rfl) rfl
theorem q1290 : (Jvm.Cond.methodLink "MaskedEars$Test" (178 : Nat) ({ cls := "MaskedEars$Test", name := "doubts", desc := "(II)I" } : Jvm.MethodName)) ∈ lw_all := lw_g (lw_at lw_m5 225 rfl) rfl
theorem q1296 : (Jvm.Cond.instanceMethod ({ cls := "MaskedEars$Test", name := "redoes", desc := "()I" } : Jvm.MethodName)) ∈ lw_all := lw_g (lw_at lw_m5 231 rfl) rfl
theorem q1297 : (Jvm.Cond.selects "MaskedEars$Test" ({ cls := "MaskedEars$Test", name := "redoes", desc := "()I" } : Jvm.MethodName) ({ cls := "MaskedEars$Test", name := "redoes", desc := "()I" } : Jvm.MethodName)) ∈ lw_all := lw_g (lw_at lw_m5 232 rfl) rfl
theorem q1298 : (Jvm.Cond.code ({ cls := "MaskedEars$Test", name := "redoes", desc := "()I" } : Jvm.MethodName) prog_10_method_22_code (5 : Nat) (Option.some Jvm.ClassFile.FieldType.int)) ∈ lw_all := lw_g (lw_at lw_m5 233 rfl) rfl
theorem q1299 : (Jvm.Cond.methodLink "MaskedEars$Test" (181 : Nat) ({ cls := "MaskedEars$Test", name := "isDoubtful", desc := "(I)Z" } : Jvm.MethodName)) ∈ lw_all := lw_g (lw_at lw_m5 234 rfl) rfl
theorem q1300 : (Jvm.Cond.methodLinkNest "MaskedEars$Test" (184 : Nat) ({ cls := "MaskedEars$Task", name := "clears", desc := "(I)V" } : Jvm.MethodName) "MaskedEars") ∈ lw_tbl := lw_at lw_m5 235 rfl
theorem q1355 : (Jvm.Cond.instanceMethod ({ cls := "MaskedEars$Test", name := "<init>", desc := "(LMaskedEars$Test;)V" } : Jvm.MethodName)) ∈ lw_all := lw_g (lw_at lw_m6 50 rfl) rfl
theorem q1356 : (Jvm.Cond.code ({ cls := "MaskedEars$Test", name := "<init>", desc := "(LMaskedEars$Test;)V" } : Jvm.MethodName) prog_10_method_2_code (4 : Nat) (Option.none : Option Jvm.ClassFile.FieldType)) ∈ lw_all := lw_g (lw_at lw_m6 51 rfl) rfl
theorem q1357 : (Jvm.Cond.methodLink "MaskedEars$Test" (57 : Nat) ({ cls := "MaskedEars$Task", name := "<init>", desc := "(LMaskedEars$Task;)V" } : Jvm.MethodName)) ∈ lw_all := lw_g (lw_at lw_m6 52 rfl) rfl
theorem q2006 : (Jvm.Cond.castable "MaskedEars$Test" "java/lang/Object") ∈ lw_tbl := lw_at lw_m8 221 rfl
theorem in_X7 : ∀ w ∈ wsX70, w ∈ lw_all := lw_in wsX70 [956, 958, 960, 962, 964] (by decide +kernel) (by decide +kernel)
/-! MaskedEars$Task -/
set_option maxRecDepth 100000
def RX8 : String := "MaskedEars$Task"
def TX8 : u_T := fun k => match k with
  | 0 => ("MaskedEars$Task", "route", "I", true)
  | 1 => ("MaskedEars$Task", "ear", "I", true)
  | 2 => ("MaskedEars$Task", "tone", "I", true)
  | 3 => ("MaskedEars$Task", "isMasked", "Z", true)
  | 4 => ("MaskedEars$Task", "state", "I", false)
  | 5 => ("MaskedEars$Task", "threshold", "I", false)
  | 6 => ("MaskedEars$Task", "shown", "I", false)
  | 7 => ("MaskedEars$Task", "searches", "I", false)
  | 8 => ("MaskedEars$Task", "odd", "I", false)
  | 9 => ("MaskedEars$Task", "loudest", "I", false)
  | 10 => ("MaskedEars$Task", "provedFrom", "I", false)
  | 11 => ("MaskedEars$Task", "noise", "I", false)
  | 12 => ("MaskedEars$Task", "last", "I", false)
  | 13 => ("MaskedEars$Task", "flats", "I", false)
  | _ => ("MaskedEars$Task", "search", "LMaskedEars$Search;", false)
def tyX8 : Nat → FieldType := fun k => match k with
  | 0 => .int
  | 1 => .int
  | 2 => .int
  | 3 => .boolean
  | 4 => .int
  | 5 => .int
  | 6 => .int
  | 7 => .int
  | 8 => .int
  | 9 => .int
  | 10 => .int
  | 11 => .int
  | 12 => .int
  | 13 => .int
  | _ => .object "MaskedEars$Search"
abbrev wsX80 : List Cond := u_ws RX8 TX8 15
set_option maxRecDepth 100000 in
theorem nmX8 : ∀ a, a < 15 → ∀ b, b < 15 → a ≠ b → (TX8 a).2.1 ≠ (TX8 b).2.1 := by decide +kernel
set_option maxRecDepth 100000 in
theorem tyX8_ok : ∀ k, k < 15 → parseFieldDescriptor (TX8 k).2.2.1 = some (tyX8 k) := by decide +kernel
abbrev cX8_init : ByteArray := prog_9_method_1_code
def yX8_init : MethodName := ⟨RX8, "<init>", "(IIIZ)V"⟩
def dkwX8_init_1 : List UInt8 := [42, 28, 181, 0, 24, 42, 29, 181, 0, 27, 42, 21, 4, 181, 0, 30, 42, 16, 254, 181, 0, 34, 177]
abbrev dktX8_init_1 : List UInt8 := dkwX8_init_1 ++ []
def dkwX8_init_0 : List UInt8 := [42, 183, 0, 3, 42, 2, 181, 0, 9, 42, 2, 181, 0, 15, 42, 2, 181, 0, 18, 42, 27, 181, 0, 21]
abbrev dktX8_init_0 : List UInt8 := dkwX8_init_0 ++ dktX8_init_1
theorem dksX8_init_0 : cX8_init.data.toList.drop 0 = dktX8_init_0 := by decide +kernel
theorem dksX8_init_1 : cX8_init.data.toList.drop 24 = dktX8_init_1 := dk_seg dksX8_init_0 24 rfl rfl
theorem dX8_init_0 : decode cX8_init 0 = .ok (.aload_n 0, 1) := dk_42 (dk_at dksX8_init_0 0 rfl rfl)
theorem dX8_init_1 : decode cX8_init 1 = .ok (.invokespecial 3, 3) := dk_183 0 3 (dk_at dksX8_init_0 1 rfl rfl)
theorem dX8_init_4 : decode cX8_init 4 = .ok (.aload_n 0, 1) := dk_42 (dk_at dksX8_init_0 4 rfl rfl)
theorem dX8_init_5 : decode cX8_init 5 = .ok (.iconst (-1), 1) := dk_2 (dk_at dksX8_init_0 5 rfl rfl)
theorem dX8_init_6 : decode cX8_init 6 = .ok (.putfield 9, 3) := dk_181 0 9 (dk_at dksX8_init_0 6 rfl rfl)
theorem dX8_init_9 : decode cX8_init 9 = .ok (.aload_n 0, 1) := dk_42 (dk_at dksX8_init_0 9 rfl rfl)
theorem dX8_init_10 : decode cX8_init 10 = .ok (.iconst (-1), 1) := dk_2 (dk_at dksX8_init_0 10 rfl rfl)
theorem dX8_init_11 : decode cX8_init 11 = .ok (.putfield 15, 3) := dk_181 0 15 (dk_at dksX8_init_0 11 rfl rfl)
theorem dX8_init_14 : decode cX8_init 14 = .ok (.aload_n 0, 1) := dk_42 (dk_at dksX8_init_0 14 rfl rfl)
theorem dX8_init_15 : decode cX8_init 15 = .ok (.iconst (-1), 1) := dk_2 (dk_at dksX8_init_0 15 rfl rfl)
theorem dX8_init_16 : decode cX8_init 16 = .ok (.putfield 18, 3) := dk_181 0 18 (dk_at dksX8_init_0 16 rfl rfl)
theorem dX8_init_19 : decode cX8_init 19 = .ok (.aload_n 0, 1) := dk_42 (dk_at dksX8_init_0 19 rfl rfl)
theorem dX8_init_20 : decode cX8_init 20 = .ok (.iload_n 1, 1) := dk_27 (dk_at dksX8_init_0 20 rfl rfl)
theorem dX8_init_21 : decode cX8_init 21 = .ok (.putfield 21, 3) := dk_181 0 21 (dk_at dksX8_init_0 21 rfl rfl)
theorem dX8_init_24 : decode cX8_init 24 = .ok (.aload_n 0, 1) := dk_42 (dk_at dksX8_init_1 0 rfl rfl)
theorem dX8_init_25 : decode cX8_init 25 = .ok (.iload_n 2, 1) := dk_28 (dk_at dksX8_init_1 1 rfl rfl)
theorem dX8_init_26 : decode cX8_init 26 = .ok (.putfield 24, 3) := dk_181 0 24 (dk_at dksX8_init_1 2 rfl rfl)
theorem dX8_init_29 : decode cX8_init 29 = .ok (.aload_n 0, 1) := dk_42 (dk_at dksX8_init_1 5 rfl rfl)
theorem dX8_init_30 : decode cX8_init 30 = .ok (.iload_n 3, 1) := dk_29 (dk_at dksX8_init_1 6 rfl rfl)
theorem dX8_init_31 : decode cX8_init 31 = .ok (.putfield 27, 3) := dk_181 0 27 (dk_at dksX8_init_1 7 rfl rfl)
theorem dX8_init_34 : decode cX8_init 34 = .ok (.aload_n 0, 1) := dk_42 (dk_at dksX8_init_1 10 rfl rfl)
theorem dX8_init_35 : decode cX8_init 35 = .ok (.iload 4, 2) := dk_21 4 (dk_at dksX8_init_1 11 rfl rfl)
theorem dX8_init_37 : decode cX8_init 37 = .ok (.putfield 30, 3) := dk_181 0 30 (dk_at dksX8_init_1 13 rfl rfl)
theorem dX8_init_40 : decode cX8_init 40 = .ok (.aload_n 0, 1) := dk_42 (dk_at dksX8_init_1 16 rfl rfl)
theorem dX8_init_41 : decode cX8_init 41 = .ok (.bipush (-2), 2) := dk_16 254 (dk_at dksX8_init_1 17 rfl rfl)
theorem dX8_init_43 : decode cX8_init 43 = .ok (.putfield 34, 3) := dk_181 0 34 (dk_at dksX8_init_1 19 rfl rfl)
theorem dX8_init_46 : decode cX8_init 46 = .ok (.return_, 1) := dk_177 (dk_at dksX8_init_1 22 rfl rfl)
abbrev cX8_isThrough : ByteArray := prog_9_method_3_code
def yX8_isThrough : MethodName := ⟨RX8, "isThrough", "()Z"⟩
def dkwX8_isThrough_0 : List UInt8 := [42, 180, 0, 40, 5, 161, 0, 7, 4, 167, 0, 4, 3, 172]
abbrev dktX8_isThrough_0 : List UInt8 := dkwX8_isThrough_0 ++ []
theorem dksX8_isThrough_0 : cX8_isThrough.data.toList.drop 0 = dktX8_isThrough_0 := by decide +kernel
theorem dX8_isThrough_0 : decode cX8_isThrough 0 = .ok (.aload_n 0, 1) := dk_42 (dk_at dksX8_isThrough_0 0 rfl rfl)
theorem dX8_isThrough_1 : decode cX8_isThrough 1 = .ok (.getfield 40, 3) := dk_180 0 40 (dk_at dksX8_isThrough_0 1 rfl rfl)
theorem dX8_isThrough_4 : decode cX8_isThrough 4 = .ok (.iconst 2, 1) := dk_5 (dk_at dksX8_isThrough_0 4 rfl rfl)
theorem dX8_isThrough_5 : decode cX8_isThrough 5 = .ok (.if_icmp .lt 7, 3) := dk_161 0 7 (dk_at dksX8_isThrough_0 5 rfl rfl)
theorem dX8_isThrough_8 : decode cX8_isThrough 8 = .ok (.iconst 1, 1) := dk_4 (dk_at dksX8_isThrough_0 8 rfl rfl)
theorem dX8_isThrough_9 : decode cX8_isThrough 9 = .ok (.goto 4, 3) := dk_167 0 4 (dk_at dksX8_isThrough_0 9 rfl rfl)
theorem dX8_isThrough_12 : decode cX8_isThrough 12 = .ok (.iconst 0, 1) := dk_3 (dk_at dksX8_isThrough_0 12 rfl rfl)
theorem dX8_isThrough_13 : decode cX8_isThrough 13 = .ok (.ireturn, 1) := dk_172 (dk_at dksX8_isThrough_0 13 rfl rfl)
abbrev cX8_begins : ByteArray := prog_9_method_5_code
def yX8_begins : MethodName := ⟨RX8, "begins", "(LMaskedEars$Test;)V"⟩
def dkwX8_begins_4 : List UInt8 := [167, 0, 17, 77, 42, 182, 0, 101, 187, 0, 79, 89, 44, 183, 0, 84, 191, 177]
abbrev dktX8_begins_4 : List UInt8 := dkwX8_begins_4 ++ []
def dkwX8_begins_3 : List UInt8 := [43, 43, 42, 180, 0, 21, 42, 180, 0, 24, 42, 180, 0, 27, 182, 0, 91, 180, 0, 34, 182, 0, 95]
abbrev dktX8_begins_3 : List UInt8 := dkwX8_begins_3 ++ dktX8_begins_4
def dkwX8_begins_2 : List UInt8 := [183, 0, 83, 183, 0, 84, 191, 42, 43, 42, 180, 0, 24, 42, 180, 0, 27, 182, 0, 87, 181, 0, 18, 42]
abbrev dktX8_begins_2 : List UInt8 := dkwX8_begins_2 ++ dktX8_begins_3
def dkwX8_begins_1 : List UInt8 := [181, 0, 58, 177, 43, 42, 180, 0, 27, 4, 182, 0, 73, 154, 0, 18, 187, 0, 79, 89, 187, 0, 81, 89]
abbrev dktX8_begins_1 : List UInt8 := dkwX8_begins_1 ++ dktX8_begins_2
def dkwX8_begins_0 : List UInt8 := [42, 4, 182, 0, 67, 42, 180, 0, 30, 154, 0, 17, 42, 187, 0, 62, 89, 16, 8, 183, 0, 71]
abbrev dktX8_begins_0 : List UInt8 := dkwX8_begins_0 ++ dktX8_begins_1
theorem dksX8_begins_0 : cX8_begins.data.toList.drop 0 = dktX8_begins_0 := by decide +kernel
theorem dksX8_begins_1 : cX8_begins.data.toList.drop 22 = dktX8_begins_1 := dk_seg dksX8_begins_0 22 rfl rfl
theorem dksX8_begins_2 : cX8_begins.data.toList.drop 46 = dktX8_begins_2 := dk_seg dksX8_begins_1 24 rfl rfl
theorem dksX8_begins_3 : cX8_begins.data.toList.drop 70 = dktX8_begins_3 := dk_seg dksX8_begins_2 24 rfl rfl
theorem dksX8_begins_4 : cX8_begins.data.toList.drop 93 = dktX8_begins_4 := dk_seg dksX8_begins_3 23 rfl rfl
theorem dX8_begins_0 : decode cX8_begins 0 = .ok (.aload_n 0, 1) := dk_42 (dk_at dksX8_begins_0 0 rfl rfl)
theorem dX8_begins_1 : decode cX8_begins 1 = .ok (.iconst 1, 1) := dk_4 (dk_at dksX8_begins_0 1 rfl rfl)
theorem dX8_begins_2 : decode cX8_begins 2 = .ok (.invokevirtual 67, 3) := dk_182 0 67 (dk_at dksX8_begins_0 2 rfl rfl)
theorem dX8_begins_5 : decode cX8_begins 5 = .ok (.aload_n 0, 1) := dk_42 (dk_at dksX8_begins_0 5 rfl rfl)
theorem dX8_begins_6 : decode cX8_begins 6 = .ok (.getfield 30, 3) := dk_180 0 30 (dk_at dksX8_begins_0 6 rfl rfl)
theorem dX8_begins_9 : decode cX8_begins 9 = .ok (.ifCond .ne 17, 3) := dk_154 0 17 (dk_at dksX8_begins_0 9 rfl rfl)
theorem dX8_begins_12 : decode cX8_begins 12 = .ok (.aload_n 0, 1) := dk_42 (dk_at dksX8_begins_0 12 rfl rfl)
theorem dX8_begins_13 : decode cX8_begins 13 = .ok (.new 62, 3) := dk_187 0 62 (dk_at dksX8_begins_0 13 rfl rfl)
theorem dX8_begins_16 : decode cX8_begins 16 = .ok (.dup, 1) := dk_89 (dk_at dksX8_begins_0 16 rfl rfl)
theorem dX8_begins_17 : decode cX8_begins 17 = .ok (.bipush 8, 2) := dk_16 8 (dk_at dksX8_begins_0 17 rfl rfl)
theorem dX8_begins_19 : decode cX8_begins 19 = .ok (.invokespecial 71, 3) := dk_183 0 71 (dk_at dksX8_begins_0 19 rfl rfl)
theorem dX8_begins_22 : decode cX8_begins 22 = .ok (.putfield 58, 3) := dk_181 0 58 (dk_at dksX8_begins_1 0 rfl rfl)
theorem dX8_begins_25 : decode cX8_begins 25 = .ok (.return_, 1) := dk_177 (dk_at dksX8_begins_1 3 rfl rfl)
theorem dX8_begins_26 : decode cX8_begins 26 = .ok (.aload_n 1, 1) := dk_43 (dk_at dksX8_begins_1 4 rfl rfl)
theorem dX8_begins_27 : decode cX8_begins 27 = .ok (.aload_n 0, 1) := dk_42 (dk_at dksX8_begins_1 5 rfl rfl)
theorem dX8_begins_28 : decode cX8_begins 28 = .ok (.getfield 27, 3) := dk_180 0 27 (dk_at dksX8_begins_1 6 rfl rfl)
theorem dX8_begins_31 : decode cX8_begins 31 = .ok (.iconst 1, 1) := dk_4 (dk_at dksX8_begins_1 9 rfl rfl)
theorem dX8_begins_32 : decode cX8_begins 32 = .ok (.invokevirtual 73, 3) := dk_182 0 73 (dk_at dksX8_begins_1 10 rfl rfl)
theorem dX8_begins_35 : decode cX8_begins 35 = .ok (.ifCond .ne 18, 3) := dk_154 0 18 (dk_at dksX8_begins_1 13 rfl rfl)
theorem dX8_begins_38 : decode cX8_begins 38 = .ok (.new 79, 3) := dk_187 0 79 (dk_at dksX8_begins_1 16 rfl rfl)
theorem dX8_begins_41 : decode cX8_begins 41 = .ok (.dup, 1) := dk_89 (dk_at dksX8_begins_1 19 rfl rfl)
theorem dX8_begins_42 : decode cX8_begins 42 = .ok (.new 81, 3) := dk_187 0 81 (dk_at dksX8_begins_1 20 rfl rfl)
theorem dX8_begins_45 : decode cX8_begins 45 = .ok (.dup, 1) := dk_89 (dk_at dksX8_begins_1 23 rfl rfl)
theorem dX8_begins_46 : decode cX8_begins 46 = .ok (.invokespecial 83, 3) := dk_183 0 83 (dk_at dksX8_begins_2 0 rfl rfl)
theorem dX8_begins_49 : decode cX8_begins 49 = .ok (.invokespecial 84, 3) := dk_183 0 84 (dk_at dksX8_begins_2 3 rfl rfl)
theorem dX8_begins_52 : decode cX8_begins 52 = .ok (.athrow, 1) := dk_191 (dk_at dksX8_begins_2 6 rfl rfl)
theorem dX8_begins_53 : decode cX8_begins 53 = .ok (.aload_n 0, 1) := dk_42 (dk_at dksX8_begins_2 7 rfl rfl)
theorem dX8_begins_54 : decode cX8_begins 54 = .ok (.aload_n 1, 1) := dk_43 (dk_at dksX8_begins_2 8 rfl rfl)
theorem dX8_begins_55 : decode cX8_begins 55 = .ok (.aload_n 0, 1) := dk_42 (dk_at dksX8_begins_2 9 rfl rfl)
theorem dX8_begins_56 : decode cX8_begins 56 = .ok (.getfield 24, 3) := dk_180 0 24 (dk_at dksX8_begins_2 10 rfl rfl)
theorem dX8_begins_59 : decode cX8_begins 59 = .ok (.aload_n 0, 1) := dk_42 (dk_at dksX8_begins_2 13 rfl rfl)
theorem dX8_begins_60 : decode cX8_begins 60 = .ok (.getfield 27, 3) := dk_180 0 27 (dk_at dksX8_begins_2 14 rfl rfl)
theorem dX8_begins_63 : decode cX8_begins 63 = .ok (.invokevirtual 87, 3) := dk_182 0 87 (dk_at dksX8_begins_2 17 rfl rfl)
theorem dX8_begins_66 : decode cX8_begins 66 = .ok (.putfield 18, 3) := dk_181 0 18 (dk_at dksX8_begins_2 20 rfl rfl)
theorem dX8_begins_69 : decode cX8_begins 69 = .ok (.aload_n 0, 1) := dk_42 (dk_at dksX8_begins_2 23 rfl rfl)
theorem dX8_begins_70 : decode cX8_begins 70 = .ok (.aload_n 1, 1) := dk_43 (dk_at dksX8_begins_3 0 rfl rfl)
theorem dX8_begins_71 : decode cX8_begins 71 = .ok (.aload_n 1, 1) := dk_43 (dk_at dksX8_begins_3 1 rfl rfl)
theorem dX8_begins_72 : decode cX8_begins 72 = .ok (.aload_n 0, 1) := dk_42 (dk_at dksX8_begins_3 2 rfl rfl)
theorem dX8_begins_73 : decode cX8_begins 73 = .ok (.getfield 21, 3) := dk_180 0 21 (dk_at dksX8_begins_3 3 rfl rfl)
theorem dX8_begins_76 : decode cX8_begins 76 = .ok (.aload_n 0, 1) := dk_42 (dk_at dksX8_begins_3 6 rfl rfl)
theorem dX8_begins_77 : decode cX8_begins 77 = .ok (.getfield 24, 3) := dk_180 0 24 (dk_at dksX8_begins_3 7 rfl rfl)
theorem dX8_begins_80 : decode cX8_begins 80 = .ok (.aload_n 0, 1) := dk_42 (dk_at dksX8_begins_3 10 rfl rfl)
theorem dX8_begins_81 : decode cX8_begins 81 = .ok (.getfield 27, 3) := dk_180 0 27 (dk_at dksX8_begins_3 11 rfl rfl)
theorem dX8_begins_84 : decode cX8_begins 84 = .ok (.invokevirtual 91, 3) := dk_182 0 91 (dk_at dksX8_begins_3 14 rfl rfl)
theorem dX8_begins_87 : decode cX8_begins 87 = .ok (.getfield 34, 3) := dk_180 0 34 (dk_at dksX8_begins_3 17 rfl rfl)
theorem dX8_begins_90 : decode cX8_begins 90 = .ok (.invokevirtual 95, 3) := dk_182 0 95 (dk_at dksX8_begins_3 20 rfl rfl)
theorem dX8_begins_93 : decode cX8_begins 93 = .ok (.goto 17, 3) := dk_167 0 17 (dk_at dksX8_begins_4 0 rfl rfl)
theorem dX8_begins_96 : decode cX8_begins 96 = .ok (.astore_n 2, 1) := dk_77 (dk_at dksX8_begins_4 3 rfl rfl)
theorem dX8_begins_97 : decode cX8_begins 97 = .ok (.aload_n 0, 1) := dk_42 (dk_at dksX8_begins_4 4 rfl rfl)
theorem dX8_begins_98 : decode cX8_begins 98 = .ok (.invokevirtual 101, 3) := dk_182 0 101 (dk_at dksX8_begins_4 5 rfl rfl)
theorem dX8_begins_101 : decode cX8_begins 101 = .ok (.new 79, 3) := dk_187 0 79 (dk_at dksX8_begins_4 8 rfl rfl)
theorem dX8_begins_104 : decode cX8_begins 104 = .ok (.dup, 1) := dk_89 (dk_at dksX8_begins_4 11 rfl rfl)
theorem dX8_begins_105 : decode cX8_begins 105 = .ok (.aload_n 2, 1) := dk_44 (dk_at dksX8_begins_4 12 rfl rfl)
theorem dX8_begins_106 : decode cX8_begins 106 = .ok (.invokespecial 84, 3) := dk_183 0 84 (dk_at dksX8_begins_4 13 rfl rfl)
theorem dX8_begins_109 : decode cX8_begins 109 = .ok (.athrow, 1) := dk_191 (dk_at dksX8_begins_4 16 rfl rfl)
theorem dX8_begins_110 : decode cX8_begins 110 = .ok (.return_, 1) := dk_177 (dk_at dksX8_begins_4 17 rfl rfl)
abbrev cX8_clears : ByteArray := prog_9_method_4_code
def yX8_clears : MethodName := ⟨RX8, "clears", "(I)V"⟩
def dkwX8_clears_2 : List UInt8 := [3, 181, 0, 55, 177]
abbrev dktX8_clears_2 : List UInt8 := dkwX8_clears_2 ++ []
def dkwX8_clears_1 : List UInt8 := [181, 0, 49, 42, 2, 181, 0, 9, 42, 2, 181, 0, 15, 42, 2, 181, 0, 18, 42, 2, 181, 0, 52, 42]
abbrev dktX8_clears_1 : List UInt8 := dkwX8_clears_1 ++ dktX8_clears_2
def dkwX8_clears_0 : List UInt8 := [42, 27, 181, 0, 40, 42, 16, 254, 181, 0, 34, 42, 3, 181, 0, 43, 42, 3, 181, 0, 46, 42, 3]
abbrev dktX8_clears_0 : List UInt8 := dkwX8_clears_0 ++ dktX8_clears_1
theorem dksX8_clears_0 : cX8_clears.data.toList.drop 0 = dktX8_clears_0 := by decide +kernel
theorem dksX8_clears_1 : cX8_clears.data.toList.drop 23 = dktX8_clears_1 := dk_seg dksX8_clears_0 23 rfl rfl
theorem dksX8_clears_2 : cX8_clears.data.toList.drop 47 = dktX8_clears_2 := dk_seg dksX8_clears_1 24 rfl rfl
theorem dX8_clears_0 : decode cX8_clears 0 = .ok (.aload_n 0, 1) := dk_42 (dk_at dksX8_clears_0 0 rfl rfl)
theorem dX8_clears_1 : decode cX8_clears 1 = .ok (.iload_n 1, 1) := dk_27 (dk_at dksX8_clears_0 1 rfl rfl)
theorem dX8_clears_2 : decode cX8_clears 2 = .ok (.putfield 40, 3) := dk_181 0 40 (dk_at dksX8_clears_0 2 rfl rfl)
theorem dX8_clears_5 : decode cX8_clears 5 = .ok (.aload_n 0, 1) := dk_42 (dk_at dksX8_clears_0 5 rfl rfl)
theorem dX8_clears_6 : decode cX8_clears 6 = .ok (.bipush (-2), 2) := dk_16 254 (dk_at dksX8_clears_0 6 rfl rfl)
theorem dX8_clears_8 : decode cX8_clears 8 = .ok (.putfield 34, 3) := dk_181 0 34 (dk_at dksX8_clears_0 8 rfl rfl)
theorem dX8_clears_11 : decode cX8_clears 11 = .ok (.aload_n 0, 1) := dk_42 (dk_at dksX8_clears_0 11 rfl rfl)
theorem dX8_clears_12 : decode cX8_clears 12 = .ok (.iconst 0, 1) := dk_3 (dk_at dksX8_clears_0 12 rfl rfl)
theorem dX8_clears_13 : decode cX8_clears 13 = .ok (.putfield 43, 3) := dk_181 0 43 (dk_at dksX8_clears_0 13 rfl rfl)
theorem dX8_clears_16 : decode cX8_clears 16 = .ok (.aload_n 0, 1) := dk_42 (dk_at dksX8_clears_0 16 rfl rfl)
theorem dX8_clears_17 : decode cX8_clears 17 = .ok (.iconst 0, 1) := dk_3 (dk_at dksX8_clears_0 17 rfl rfl)
theorem dX8_clears_18 : decode cX8_clears 18 = .ok (.putfield 46, 3) := dk_181 0 46 (dk_at dksX8_clears_0 18 rfl rfl)
theorem dX8_clears_21 : decode cX8_clears 21 = .ok (.aload_n 0, 1) := dk_42 (dk_at dksX8_clears_0 21 rfl rfl)
theorem dX8_clears_22 : decode cX8_clears 22 = .ok (.iconst 0, 1) := dk_3 (dk_at dksX8_clears_0 22 rfl rfl)
theorem dX8_clears_23 : decode cX8_clears 23 = .ok (.putfield 49, 3) := dk_181 0 49 (dk_at dksX8_clears_1 0 rfl rfl)
theorem dX8_clears_26 : decode cX8_clears 26 = .ok (.aload_n 0, 1) := dk_42 (dk_at dksX8_clears_1 3 rfl rfl)
theorem dX8_clears_27 : decode cX8_clears 27 = .ok (.iconst (-1), 1) := dk_2 (dk_at dksX8_clears_1 4 rfl rfl)
theorem dX8_clears_28 : decode cX8_clears 28 = .ok (.putfield 9, 3) := dk_181 0 9 (dk_at dksX8_clears_1 5 rfl rfl)
theorem dX8_clears_31 : decode cX8_clears 31 = .ok (.aload_n 0, 1) := dk_42 (dk_at dksX8_clears_1 8 rfl rfl)
theorem dX8_clears_32 : decode cX8_clears 32 = .ok (.iconst (-1), 1) := dk_2 (dk_at dksX8_clears_1 9 rfl rfl)
theorem dX8_clears_33 : decode cX8_clears 33 = .ok (.putfield 15, 3) := dk_181 0 15 (dk_at dksX8_clears_1 10 rfl rfl)
theorem dX8_clears_36 : decode cX8_clears 36 = .ok (.aload_n 0, 1) := dk_42 (dk_at dksX8_clears_1 13 rfl rfl)
theorem dX8_clears_37 : decode cX8_clears 37 = .ok (.iconst (-1), 1) := dk_2 (dk_at dksX8_clears_1 14 rfl rfl)
theorem dX8_clears_38 : decode cX8_clears 38 = .ok (.putfield 18, 3) := dk_181 0 18 (dk_at dksX8_clears_1 15 rfl rfl)
theorem dX8_clears_41 : decode cX8_clears 41 = .ok (.aload_n 0, 1) := dk_42 (dk_at dksX8_clears_1 18 rfl rfl)
theorem dX8_clears_42 : decode cX8_clears 42 = .ok (.iconst (-1), 1) := dk_2 (dk_at dksX8_clears_1 19 rfl rfl)
theorem dX8_clears_43 : decode cX8_clears 43 = .ok (.putfield 52, 3) := dk_181 0 52 (dk_at dksX8_clears_1 20 rfl rfl)
theorem dX8_clears_46 : decode cX8_clears 46 = .ok (.aload_n 0, 1) := dk_42 (dk_at dksX8_clears_1 23 rfl rfl)
theorem dX8_clears_47 : decode cX8_clears 47 = .ok (.iconst 0, 1) := dk_3 (dk_at dksX8_clears_2 0 rfl rfl)
theorem dX8_clears_48 : decode cX8_clears 48 = .ok (.putfield 55, 3) := dk_181 0 55 (dk_at dksX8_clears_2 1 rfl rfl)
theorem dX8_clears_51 : decode cX8_clears 51 = .ok (.return_, 1) := dk_177 (dk_at dksX8_clears_2 4 rfl rfl)
abbrev cX8_quiets : ByteArray := prog_9_method_6_code
def yX8_quiets : MethodName := ⟨RX8, "quiets", "(LMaskedEars$Test;I)V"⟩
def dkwX8_quiets_2 : List UInt8 := [183, 0, 71, 181, 0, 58, 177]
abbrev dktX8_quiets_2 : List UInt8 := dkwX8_quiets_2 ++ []
def dkwX8_quiets_1 : List UInt8 := [183, 0, 107, 191, 42, 42, 180, 0, 18, 181, 0, 9, 42, 187, 0, 62, 89, 16, 24, 28, 184, 0, 108]
abbrev dktX8_quiets_1 : List UInt8 := dkwX8_quiets_1 ++ dktX8_quiets_2
def dkwX8_quiets_0 : List UInt8 := [42, 180, 0, 18, 43, 42, 180, 0, 24, 42, 180, 0, 27, 182, 0, 104, 164, 0, 11, 187, 0, 99, 89]
abbrev dktX8_quiets_0 : List UInt8 := dkwX8_quiets_0 ++ dktX8_quiets_1
theorem dksX8_quiets_0 : cX8_quiets.data.toList.drop 0 = dktX8_quiets_0 := by decide +kernel
theorem dksX8_quiets_1 : cX8_quiets.data.toList.drop 23 = dktX8_quiets_1 := dk_seg dksX8_quiets_0 23 rfl rfl
theorem dksX8_quiets_2 : cX8_quiets.data.toList.drop 46 = dktX8_quiets_2 := dk_seg dksX8_quiets_1 23 rfl rfl
theorem dX8_quiets_0 : decode cX8_quiets 0 = .ok (.aload_n 0, 1) := dk_42 (dk_at dksX8_quiets_0 0 rfl rfl)
theorem dX8_quiets_1 : decode cX8_quiets 1 = .ok (.getfield 18, 3) := dk_180 0 18 (dk_at dksX8_quiets_0 1 rfl rfl)
theorem dX8_quiets_4 : decode cX8_quiets 4 = .ok (.aload_n 1, 1) := dk_43 (dk_at dksX8_quiets_0 4 rfl rfl)
theorem dX8_quiets_5 : decode cX8_quiets 5 = .ok (.aload_n 0, 1) := dk_42 (dk_at dksX8_quiets_0 5 rfl rfl)
theorem dX8_quiets_6 : decode cX8_quiets 6 = .ok (.getfield 24, 3) := dk_180 0 24 (dk_at dksX8_quiets_0 6 rfl rfl)
theorem dX8_quiets_9 : decode cX8_quiets 9 = .ok (.aload_n 0, 1) := dk_42 (dk_at dksX8_quiets_0 9 rfl rfl)
theorem dX8_quiets_10 : decode cX8_quiets 10 = .ok (.getfield 27, 3) := dk_180 0 27 (dk_at dksX8_quiets_0 10 rfl rfl)
theorem dX8_quiets_13 : decode cX8_quiets 13 = .ok (.invokevirtual 104, 3) := dk_182 0 104 (dk_at dksX8_quiets_0 13 rfl rfl)
theorem dX8_quiets_16 : decode cX8_quiets 16 = .ok (.if_icmp .le 11, 3) := dk_164 0 11 (dk_at dksX8_quiets_0 16 rfl rfl)
theorem dX8_quiets_19 : decode cX8_quiets 19 = .ok (.new 99, 3) := dk_187 0 99 (dk_at dksX8_quiets_0 19 rfl rfl)
theorem dX8_quiets_22 : decode cX8_quiets 22 = .ok (.dup, 1) := dk_89 (dk_at dksX8_quiets_0 22 rfl rfl)
theorem dX8_quiets_23 : decode cX8_quiets 23 = .ok (.invokespecial 107, 3) := dk_183 0 107 (dk_at dksX8_quiets_1 0 rfl rfl)
theorem dX8_quiets_26 : decode cX8_quiets 26 = .ok (.athrow, 1) := dk_191 (dk_at dksX8_quiets_1 3 rfl rfl)
theorem dX8_quiets_27 : decode cX8_quiets 27 = .ok (.aload_n 0, 1) := dk_42 (dk_at dksX8_quiets_1 4 rfl rfl)
theorem dX8_quiets_28 : decode cX8_quiets 28 = .ok (.aload_n 0, 1) := dk_42 (dk_at dksX8_quiets_1 5 rfl rfl)
theorem dX8_quiets_29 : decode cX8_quiets 29 = .ok (.getfield 18, 3) := dk_180 0 18 (dk_at dksX8_quiets_1 6 rfl rfl)
theorem dX8_quiets_32 : decode cX8_quiets 32 = .ok (.putfield 9, 3) := dk_181 0 9 (dk_at dksX8_quiets_1 9 rfl rfl)
theorem dX8_quiets_35 : decode cX8_quiets 35 = .ok (.aload_n 0, 1) := dk_42 (dk_at dksX8_quiets_1 12 rfl rfl)
theorem dX8_quiets_36 : decode cX8_quiets 36 = .ok (.new 62, 3) := dk_187 0 62 (dk_at dksX8_quiets_1 13 rfl rfl)
theorem dX8_quiets_39 : decode cX8_quiets 39 = .ok (.dup, 1) := dk_89 (dk_at dksX8_quiets_1 16 rfl rfl)
theorem dX8_quiets_40 : decode cX8_quiets 40 = .ok (.bipush 24, 2) := dk_16 24 (dk_at dksX8_quiets_1 17 rfl rfl)
theorem dX8_quiets_42 : decode cX8_quiets 42 = .ok (.iload_n 2, 1) := dk_28 (dk_at dksX8_quiets_1 19 rfl rfl)
theorem dX8_quiets_43 : decode cX8_quiets 43 = .ok (.invokestatic 108, 3) := dk_184 0 108 (dk_at dksX8_quiets_1 20 rfl rfl)
theorem dX8_quiets_46 : decode cX8_quiets 46 = .ok (.invokespecial 71, 3) := dk_183 0 71 (dk_at dksX8_quiets_2 0 rfl rfl)
theorem dX8_quiets_49 : decode cX8_quiets 49 = .ok (.putfield 58, 3) := dk_181 0 58 (dk_at dksX8_quiets_2 3 rfl rfl)
theorem dX8_quiets_52 : decode cX8_quiets 52 = .ok (.return_, 1) := dk_177 (dk_at dksX8_quiets_2 6 rfl rfl)
abbrev cX8_ends : ByteArray := prog_9_method_7_code
def yX8_ends : MethodName := ⟨RX8, "ends", "()V"⟩
def dkwX8_ends_0 : List UInt8 := [42, 1, 181, 0, 58, 42, 2, 181, 0, 18, 177]
abbrev dktX8_ends_0 : List UInt8 := dkwX8_ends_0 ++ []
theorem dksX8_ends_0 : cX8_ends.data.toList.drop 0 = dktX8_ends_0 := by decide +kernel
theorem dX8_ends_0 : decode cX8_ends 0 = .ok (.aload_n 0, 1) := dk_42 (dk_at dksX8_ends_0 0 rfl rfl)
theorem dX8_ends_1 : decode cX8_ends 1 = .ok (.aconst_null, 1) := dk_1 (dk_at dksX8_ends_0 1 rfl rfl)
theorem dX8_ends_2 : decode cX8_ends 2 = .ok (.putfield 58, 3) := dk_181 0 58 (dk_at dksX8_ends_0 2 rfl rfl)
theorem dX8_ends_5 : decode cX8_ends 5 = .ok (.aload_n 0, 1) := dk_42 (dk_at dksX8_ends_0 5 rfl rfl)
theorem dX8_ends_6 : decode cX8_ends 6 = .ok (.iconst (-1), 1) := dk_2 (dk_at dksX8_ends_0 6 rfl rfl)
theorem dX8_ends_7 : decode cX8_ends 7 = .ok (.putfield 18, 3) := dk_181 0 18 (dk_at dksX8_ends_0 7 rfl rfl)
theorem dX8_ends_10 : decode cX8_ends 10 = .ok (.return_, 1) := dk_177 (dk_at dksX8_ends_0 10 rfl rfl)
abbrev cX8_takes : ByteArray := prog_9_method_8_code
def yX8_takes : MethodName := ⟨RX8, "takes", "(LMaskedEars$Test;Z)I"⟩
def dkwX8_takes_2 : List UInt8 := [191]
abbrev dktX8_takes_2 : List UInt8 := dkwX8_takes_2 ++ []
def dkwX8_takes_1 : List UInt8 := [3, 167, 0, 9, 42, 43, 29, 182, 0, 117, 172, 78, 42, 182, 0, 101, 187, 0, 79, 89, 45, 183, 0, 84]
abbrev dktX8_takes_1 : List UInt8 := dkwX8_takes_1 ++ dktX8_takes_2
def dkwX8_takes_0 : List UInt8 := [42, 89, 180, 0, 43, 4, 96, 181, 0, 43, 42, 180, 0, 58, 28, 182, 0, 113, 62, 29, 2, 160, 0, 7]
abbrev dktX8_takes_0 : List UInt8 := dkwX8_takes_0 ++ dktX8_takes_1
theorem dksX8_takes_0 : cX8_takes.data.toList.drop 0 = dktX8_takes_0 := by decide +kernel
theorem dksX8_takes_1 : cX8_takes.data.toList.drop 24 = dktX8_takes_1 := dk_seg dksX8_takes_0 24 rfl rfl
theorem dksX8_takes_2 : cX8_takes.data.toList.drop 48 = dktX8_takes_2 := dk_seg dksX8_takes_1 24 rfl rfl
theorem dX8_takes_0 : decode cX8_takes 0 = .ok (.aload_n 0, 1) := dk_42 (dk_at dksX8_takes_0 0 rfl rfl)
theorem dX8_takes_1 : decode cX8_takes 1 = .ok (.dup, 1) := dk_89 (dk_at dksX8_takes_0 1 rfl rfl)
theorem dX8_takes_2 : decode cX8_takes 2 = .ok (.getfield 43, 3) := dk_180 0 43 (dk_at dksX8_takes_0 2 rfl rfl)
theorem dX8_takes_5 : decode cX8_takes 5 = .ok (.iconst 1, 1) := dk_4 (dk_at dksX8_takes_0 5 rfl rfl)
theorem dX8_takes_6 : decode cX8_takes 6 = .ok (.iadd, 1) := dk_96 (dk_at dksX8_takes_0 6 rfl rfl)
theorem dX8_takes_7 : decode cX8_takes 7 = .ok (.putfield 43, 3) := dk_181 0 43 (dk_at dksX8_takes_0 7 rfl rfl)
theorem dX8_takes_10 : decode cX8_takes 10 = .ok (.aload_n 0, 1) := dk_42 (dk_at dksX8_takes_0 10 rfl rfl)
theorem dX8_takes_11 : decode cX8_takes 11 = .ok (.getfield 58, 3) := dk_180 0 58 (dk_at dksX8_takes_0 11 rfl rfl)
theorem dX8_takes_14 : decode cX8_takes 14 = .ok (.iload_n 2, 1) := dk_28 (dk_at dksX8_takes_0 14 rfl rfl)
theorem dX8_takes_15 : decode cX8_takes 15 = .ok (.invokevirtual 113, 3) := dk_182 0 113 (dk_at dksX8_takes_0 15 rfl rfl)
theorem dX8_takes_18 : decode cX8_takes 18 = .ok (.istore_n 3, 1) := dk_62 (dk_at dksX8_takes_0 18 rfl rfl)
theorem dX8_takes_19 : decode cX8_takes 19 = .ok (.iload_n 3, 1) := dk_29 (dk_at dksX8_takes_0 19 rfl rfl)
theorem dX8_takes_20 : decode cX8_takes 20 = .ok (.iconst (-1), 1) := dk_2 (dk_at dksX8_takes_0 20 rfl rfl)
theorem dX8_takes_21 : decode cX8_takes 21 = .ok (.if_icmp .ne 7, 3) := dk_160 0 7 (dk_at dksX8_takes_0 21 rfl rfl)
theorem dX8_takes_24 : decode cX8_takes 24 = .ok (.iconst 0, 1) := dk_3 (dk_at dksX8_takes_1 0 rfl rfl)
theorem dX8_takes_25 : decode cX8_takes 25 = .ok (.goto 9, 3) := dk_167 0 9 (dk_at dksX8_takes_1 1 rfl rfl)
theorem dX8_takes_28 : decode cX8_takes 28 = .ok (.aload_n 0, 1) := dk_42 (dk_at dksX8_takes_1 4 rfl rfl)
theorem dX8_takes_29 : decode cX8_takes 29 = .ok (.aload_n 1, 1) := dk_43 (dk_at dksX8_takes_1 5 rfl rfl)
theorem dX8_takes_30 : decode cX8_takes 30 = .ok (.iload_n 3, 1) := dk_29 (dk_at dksX8_takes_1 6 rfl rfl)
theorem dX8_takes_31 : decode cX8_takes 31 = .ok (.invokevirtual 117, 3) := dk_182 0 117 (dk_at dksX8_takes_1 7 rfl rfl)
theorem dX8_takes_34 : decode cX8_takes 34 = .ok (.ireturn, 1) := dk_172 (dk_at dksX8_takes_1 10 rfl rfl)
theorem dX8_takes_35 : decode cX8_takes 35 = .ok (.astore_n 3, 1) := dk_78 (dk_at dksX8_takes_1 11 rfl rfl)
theorem dX8_takes_36 : decode cX8_takes 36 = .ok (.aload_n 0, 1) := dk_42 (dk_at dksX8_takes_1 12 rfl rfl)
theorem dX8_takes_37 : decode cX8_takes 37 = .ok (.invokevirtual 101, 3) := dk_182 0 101 (dk_at dksX8_takes_1 13 rfl rfl)
theorem dX8_takes_40 : decode cX8_takes 40 = .ok (.new 79, 3) := dk_187 0 79 (dk_at dksX8_takes_1 16 rfl rfl)
theorem dX8_takes_43 : decode cX8_takes 43 = .ok (.dup, 1) := dk_89 (dk_at dksX8_takes_1 19 rfl rfl)
theorem dX8_takes_44 : decode cX8_takes 44 = .ok (.aload_n 3, 1) := dk_45 (dk_at dksX8_takes_1 20 rfl rfl)
theorem dX8_takes_45 : decode cX8_takes 45 = .ok (.invokespecial 84, 3) := dk_183 0 84 (dk_at dksX8_takes_1 21 rfl rfl)
theorem dX8_takes_48 : decode cX8_takes 48 = .ok (.athrow, 1) := dk_191 (dk_at dksX8_takes_2 0 rfl rfl)
abbrev cX8_finds : ByteArray := prog_9_method_9_code
def yX8_finds : MethodName := ⟨RX8, "finds", "(LMaskedEars$Test;I)I"⟩
def dkwX8_finds_6 : List UInt8 := [182, 0, 101, 5, 172]
abbrev dktX8_finds_6 : List UInt8 := dkwX8_finds_6 ++ []
def dkwX8_finds_5 : List UInt8 := [42, 180, 0, 18, 42, 180, 0, 55, 4, 100, 43, 180, 0, 124, 180, 0, 131, 104, 100, 181, 0, 15, 42]
abbrev dktX8_finds_5 : List UInt8 := dkwX8_finds_5 ++ dktX8_finds_6
def dkwX8_finds_4 : List UInt8 := [28, 182, 0, 95, 4, 172, 42, 28, 181, 0, 34, 42, 5, 181, 0, 40, 42, 180, 0, 30, 153, 0, 26, 42]
abbrev dktX8_finds_4 : List UInt8 := dkwX8_finds_4 ++ dktX8_finds_5
def dkwX8_finds_3 : List UInt8 := [180, 0, 128, 162, 0, 27, 42, 89, 180, 0, 18, 43, 180, 0, 124, 180, 0, 131, 96, 181, 0, 18, 42, 43]
abbrev dktX8_finds_3 : List UInt8 := dkwX8_finds_3 ++ dktX8_finds_4
def dkwX8_finds_2 : List UInt8 := [181, 0, 55, 42, 28, 181, 0, 52, 42, 180, 0, 30, 153, 0, 41, 42, 180, 0, 55, 43, 180, 0, 124]
abbrev dktX8_finds_2 : List UInt8 := dkwX8_finds_2 ++ dktX8_finds_3
def dkwX8_finds_1 : List UInt8 := [181, 0, 49, 42, 28, 42, 180, 0, 52, 160, 0, 12, 42, 180, 0, 55, 4, 96, 167, 0, 4, 4]
abbrev dktX8_finds_1 : List UInt8 := dkwX8_finds_1 ++ dktX8_finds_2
def dkwX8_finds_0 : List UInt8 := [42, 89, 180, 0, 46, 4, 96, 181, 0, 46, 42, 89, 180, 0, 49, 42, 180, 0, 58, 28, 182, 0, 121, 96]
abbrev dktX8_finds_0 : List UInt8 := dkwX8_finds_0 ++ dktX8_finds_1
theorem dksX8_finds_0 : cX8_finds.data.toList.drop 0 = dktX8_finds_0 := by decide +kernel
theorem dksX8_finds_1 : cX8_finds.data.toList.drop 24 = dktX8_finds_1 := dk_seg dksX8_finds_0 24 rfl rfl
theorem dksX8_finds_2 : cX8_finds.data.toList.drop 46 = dktX8_finds_2 := dk_seg dksX8_finds_1 22 rfl rfl
theorem dksX8_finds_3 : cX8_finds.data.toList.drop 69 = dktX8_finds_3 := dk_seg dksX8_finds_2 23 rfl rfl
theorem dksX8_finds_4 : cX8_finds.data.toList.drop 93 = dktX8_finds_4 := dk_seg dksX8_finds_3 24 rfl rfl
theorem dksX8_finds_5 : cX8_finds.data.toList.drop 117 = dktX8_finds_5 := dk_seg dksX8_finds_4 24 rfl rfl
theorem dksX8_finds_6 : cX8_finds.data.toList.drop 140 = dktX8_finds_6 := dk_seg dksX8_finds_5 23 rfl rfl
theorem dX8_finds_0 : decode cX8_finds 0 = .ok (.aload_n 0, 1) := dk_42 (dk_at dksX8_finds_0 0 rfl rfl)
theorem dX8_finds_1 : decode cX8_finds 1 = .ok (.dup, 1) := dk_89 (dk_at dksX8_finds_0 1 rfl rfl)
theorem dX8_finds_2 : decode cX8_finds 2 = .ok (.getfield 46, 3) := dk_180 0 46 (dk_at dksX8_finds_0 2 rfl rfl)
theorem dX8_finds_5 : decode cX8_finds 5 = .ok (.iconst 1, 1) := dk_4 (dk_at dksX8_finds_0 5 rfl rfl)
theorem dX8_finds_6 : decode cX8_finds 6 = .ok (.iadd, 1) := dk_96 (dk_at dksX8_finds_0 6 rfl rfl)
theorem dX8_finds_7 : decode cX8_finds 7 = .ok (.putfield 46, 3) := dk_181 0 46 (dk_at dksX8_finds_0 7 rfl rfl)
theorem dX8_finds_10 : decode cX8_finds 10 = .ok (.aload_n 0, 1) := dk_42 (dk_at dksX8_finds_0 10 rfl rfl)
theorem dX8_finds_11 : decode cX8_finds 11 = .ok (.dup, 1) := dk_89 (dk_at dksX8_finds_0 11 rfl rfl)
theorem dX8_finds_12 : decode cX8_finds 12 = .ok (.getfield 49, 3) := dk_180 0 49 (dk_at dksX8_finds_0 12 rfl rfl)
theorem dX8_finds_15 : decode cX8_finds 15 = .ok (.aload_n 0, 1) := dk_42 (dk_at dksX8_finds_0 15 rfl rfl)
theorem dX8_finds_16 : decode cX8_finds 16 = .ok (.getfield 58, 3) := dk_180 0 58 (dk_at dksX8_finds_0 16 rfl rfl)
theorem dX8_finds_19 : decode cX8_finds 19 = .ok (.iload_n 2, 1) := dk_28 (dk_at dksX8_finds_0 19 rfl rfl)
theorem dX8_finds_20 : decode cX8_finds 20 = .ok (.invokevirtual 121, 3) := dk_182 0 121 (dk_at dksX8_finds_0 20 rfl rfl)
theorem dX8_finds_23 : decode cX8_finds 23 = .ok (.iadd, 1) := dk_96 (dk_at dksX8_finds_0 23 rfl rfl)
theorem dX8_finds_24 : decode cX8_finds 24 = .ok (.putfield 49, 3) := dk_181 0 49 (dk_at dksX8_finds_1 0 rfl rfl)
theorem dX8_finds_27 : decode cX8_finds 27 = .ok (.aload_n 0, 1) := dk_42 (dk_at dksX8_finds_1 3 rfl rfl)
theorem dX8_finds_28 : decode cX8_finds 28 = .ok (.iload_n 2, 1) := dk_28 (dk_at dksX8_finds_1 4 rfl rfl)
theorem dX8_finds_29 : decode cX8_finds 29 = .ok (.aload_n 0, 1) := dk_42 (dk_at dksX8_finds_1 5 rfl rfl)
theorem dX8_finds_30 : decode cX8_finds 30 = .ok (.getfield 52, 3) := dk_180 0 52 (dk_at dksX8_finds_1 6 rfl rfl)
theorem dX8_finds_33 : decode cX8_finds 33 = .ok (.if_icmp .ne 12, 3) := dk_160 0 12 (dk_at dksX8_finds_1 9 rfl rfl)
theorem dX8_finds_36 : decode cX8_finds 36 = .ok (.aload_n 0, 1) := dk_42 (dk_at dksX8_finds_1 12 rfl rfl)
theorem dX8_finds_37 : decode cX8_finds 37 = .ok (.getfield 55, 3) := dk_180 0 55 (dk_at dksX8_finds_1 13 rfl rfl)
theorem dX8_finds_40 : decode cX8_finds 40 = .ok (.iconst 1, 1) := dk_4 (dk_at dksX8_finds_1 16 rfl rfl)
theorem dX8_finds_41 : decode cX8_finds 41 = .ok (.iadd, 1) := dk_96 (dk_at dksX8_finds_1 17 rfl rfl)
theorem dX8_finds_42 : decode cX8_finds 42 = .ok (.goto 4, 3) := dk_167 0 4 (dk_at dksX8_finds_1 18 rfl rfl)
theorem dX8_finds_45 : decode cX8_finds 45 = .ok (.iconst 1, 1) := dk_4 (dk_at dksX8_finds_1 21 rfl rfl)
theorem dX8_finds_46 : decode cX8_finds 46 = .ok (.putfield 55, 3) := dk_181 0 55 (dk_at dksX8_finds_2 0 rfl rfl)
theorem dX8_finds_49 : decode cX8_finds 49 = .ok (.aload_n 0, 1) := dk_42 (dk_at dksX8_finds_2 3 rfl rfl)
theorem dX8_finds_50 : decode cX8_finds 50 = .ok (.iload_n 2, 1) := dk_28 (dk_at dksX8_finds_2 4 rfl rfl)
theorem dX8_finds_51 : decode cX8_finds 51 = .ok (.putfield 52, 3) := dk_181 0 52 (dk_at dksX8_finds_2 5 rfl rfl)
theorem dX8_finds_54 : decode cX8_finds 54 = .ok (.aload_n 0, 1) := dk_42 (dk_at dksX8_finds_2 8 rfl rfl)
theorem dX8_finds_55 : decode cX8_finds 55 = .ok (.getfield 30, 3) := dk_180 0 30 (dk_at dksX8_finds_2 9 rfl rfl)
theorem dX8_finds_58 : decode cX8_finds 58 = .ok (.ifCond .eq 41, 3) := dk_153 0 41 (dk_at dksX8_finds_2 12 rfl rfl)
theorem dX8_finds_61 : decode cX8_finds 61 = .ok (.aload_n 0, 1) := dk_42 (dk_at dksX8_finds_2 15 rfl rfl)
theorem dX8_finds_62 : decode cX8_finds 62 = .ok (.getfield 55, 3) := dk_180 0 55 (dk_at dksX8_finds_2 16 rfl rfl)
theorem dX8_finds_65 : decode cX8_finds 65 = .ok (.aload_n 1, 1) := dk_43 (dk_at dksX8_finds_2 19 rfl rfl)
theorem dX8_finds_66 : decode cX8_finds 66 = .ok (.getfield 124, 3) := dk_180 0 124 (dk_at dksX8_finds_2 20 rfl rfl)
theorem dX8_finds_69 : decode cX8_finds 69 = .ok (.getfield 128, 3) := dk_180 0 128 (dk_at dksX8_finds_3 0 rfl rfl)
theorem dX8_finds_72 : decode cX8_finds 72 = .ok (.if_icmp .ge 27, 3) := dk_162 0 27 (dk_at dksX8_finds_3 3 rfl rfl)
theorem dX8_finds_75 : decode cX8_finds 75 = .ok (.aload_n 0, 1) := dk_42 (dk_at dksX8_finds_3 6 rfl rfl)
theorem dX8_finds_76 : decode cX8_finds 76 = .ok (.dup, 1) := dk_89 (dk_at dksX8_finds_3 7 rfl rfl)
theorem dX8_finds_77 : decode cX8_finds 77 = .ok (.getfield 18, 3) := dk_180 0 18 (dk_at dksX8_finds_3 8 rfl rfl)
theorem dX8_finds_80 : decode cX8_finds 80 = .ok (.aload_n 1, 1) := dk_43 (dk_at dksX8_finds_3 11 rfl rfl)
theorem dX8_finds_81 : decode cX8_finds 81 = .ok (.getfield 124, 3) := dk_180 0 124 (dk_at dksX8_finds_3 12 rfl rfl)
theorem dX8_finds_84 : decode cX8_finds 84 = .ok (.getfield 131, 3) := dk_180 0 131 (dk_at dksX8_finds_3 15 rfl rfl)
theorem dX8_finds_87 : decode cX8_finds 87 = .ok (.iadd, 1) := dk_96 (dk_at dksX8_finds_3 18 rfl rfl)
theorem dX8_finds_88 : decode cX8_finds 88 = .ok (.putfield 18, 3) := dk_181 0 18 (dk_at dksX8_finds_3 19 rfl rfl)
theorem dX8_finds_91 : decode cX8_finds 91 = .ok (.aload_n 0, 1) := dk_42 (dk_at dksX8_finds_3 22 rfl rfl)
theorem dX8_finds_92 : decode cX8_finds 92 = .ok (.aload_n 1, 1) := dk_43 (dk_at dksX8_finds_3 23 rfl rfl)
theorem dX8_finds_93 : decode cX8_finds 93 = .ok (.iload_n 2, 1) := dk_28 (dk_at dksX8_finds_4 0 rfl rfl)
theorem dX8_finds_94 : decode cX8_finds 94 = .ok (.invokevirtual 95, 3) := dk_182 0 95 (dk_at dksX8_finds_4 1 rfl rfl)
theorem dX8_finds_97 : decode cX8_finds 97 = .ok (.iconst 1, 1) := dk_4 (dk_at dksX8_finds_4 4 rfl rfl)
theorem dX8_finds_98 : decode cX8_finds 98 = .ok (.ireturn, 1) := dk_172 (dk_at dksX8_finds_4 5 rfl rfl)
theorem dX8_finds_99 : decode cX8_finds 99 = .ok (.aload_n 0, 1) := dk_42 (dk_at dksX8_finds_4 6 rfl rfl)
theorem dX8_finds_100 : decode cX8_finds 100 = .ok (.iload_n 2, 1) := dk_28 (dk_at dksX8_finds_4 7 rfl rfl)
theorem dX8_finds_101 : decode cX8_finds 101 = .ok (.putfield 34, 3) := dk_181 0 34 (dk_at dksX8_finds_4 8 rfl rfl)
theorem dX8_finds_104 : decode cX8_finds 104 = .ok (.aload_n 0, 1) := dk_42 (dk_at dksX8_finds_4 11 rfl rfl)
theorem dX8_finds_105 : decode cX8_finds 105 = .ok (.iconst 2, 1) := dk_5 (dk_at dksX8_finds_4 12 rfl rfl)
theorem dX8_finds_106 : decode cX8_finds 106 = .ok (.putfield 40, 3) := dk_181 0 40 (dk_at dksX8_finds_4 13 rfl rfl)
theorem dX8_finds_109 : decode cX8_finds 109 = .ok (.aload_n 0, 1) := dk_42 (dk_at dksX8_finds_4 16 rfl rfl)
theorem dX8_finds_110 : decode cX8_finds 110 = .ok (.getfield 30, 3) := dk_180 0 30 (dk_at dksX8_finds_4 17 rfl rfl)
theorem dX8_finds_113 : decode cX8_finds 113 = .ok (.ifCond .eq 26, 3) := dk_153 0 26 (dk_at dksX8_finds_4 20 rfl rfl)
theorem dX8_finds_116 : decode cX8_finds 116 = .ok (.aload_n 0, 1) := dk_42 (dk_at dksX8_finds_4 23 rfl rfl)
theorem dX8_finds_117 : decode cX8_finds 117 = .ok (.aload_n 0, 1) := dk_42 (dk_at dksX8_finds_5 0 rfl rfl)
theorem dX8_finds_118 : decode cX8_finds 118 = .ok (.getfield 18, 3) := dk_180 0 18 (dk_at dksX8_finds_5 1 rfl rfl)
theorem dX8_finds_121 : decode cX8_finds 121 = .ok (.aload_n 0, 1) := dk_42 (dk_at dksX8_finds_5 4 rfl rfl)
theorem dX8_finds_122 : decode cX8_finds 122 = .ok (.getfield 55, 3) := dk_180 0 55 (dk_at dksX8_finds_5 5 rfl rfl)
theorem dX8_finds_125 : decode cX8_finds 125 = .ok (.iconst 1, 1) := dk_4 (dk_at dksX8_finds_5 8 rfl rfl)
theorem dX8_finds_126 : decode cX8_finds 126 = .ok (.isub, 1) := dk_100 (dk_at dksX8_finds_5 9 rfl rfl)
theorem dX8_finds_127 : decode cX8_finds 127 = .ok (.aload_n 1, 1) := dk_43 (dk_at dksX8_finds_5 10 rfl rfl)
theorem dX8_finds_128 : decode cX8_finds 128 = .ok (.getfield 124, 3) := dk_180 0 124 (dk_at dksX8_finds_5 11 rfl rfl)
theorem dX8_finds_131 : decode cX8_finds 131 = .ok (.getfield 131, 3) := dk_180 0 131 (dk_at dksX8_finds_5 14 rfl rfl)
theorem dX8_finds_134 : decode cX8_finds 134 = .ok (.imul, 1) := dk_104 (dk_at dksX8_finds_5 17 rfl rfl)
theorem dX8_finds_135 : decode cX8_finds 135 = .ok (.isub, 1) := dk_100 (dk_at dksX8_finds_5 18 rfl rfl)
theorem dX8_finds_136 : decode cX8_finds 136 = .ok (.putfield 15, 3) := dk_181 0 15 (dk_at dksX8_finds_5 19 rfl rfl)
theorem dX8_finds_139 : decode cX8_finds 139 = .ok (.aload_n 0, 1) := dk_42 (dk_at dksX8_finds_5 22 rfl rfl)
theorem dX8_finds_140 : decode cX8_finds 140 = .ok (.invokevirtual 101, 3) := dk_182 0 101 (dk_at dksX8_finds_6 0 rfl rfl)
theorem dX8_finds_143 : decode cX8_finds 143 = .ok (.iconst 2, 1) := dk_5 (dk_at dksX8_finds_6 3 rfl rfl)
theorem dX8_finds_144 : decode cX8_finds 144 = .ok (.ireturn, 1) := dk_172 (dk_at dksX8_finds_6 4 rfl rfl)
abbrev cX8_init_2 : ByteArray := prog_9_method_2_code
def yX8_init_2 : MethodName := ⟨RX8, "<init>", "(LMaskedEars$Task;)V"⟩
def dkwX8_init_2_5 : List UInt8 := [180, 0, 58, 183, 0, 64, 181, 0, 58, 177]
abbrev dktX8_init_2_5 : List UInt8 := dkwX8_init_2_5 ++ []
def dkwX8_init_2_4 : List UInt8 := [180, 0, 55, 181, 0, 55, 42, 43, 180, 0, 58, 199, 0, 7, 1, 167, 0, 14, 187, 0, 62, 89, 43]
abbrev dktX8_init_2_4 : List UInt8 := dkwX8_init_2_4 ++ dktX8_init_2_5
def dkwX8_init_2_3 : List UInt8 := [180, 0, 15, 181, 0, 15, 42, 43, 180, 0, 18, 181, 0, 18, 42, 43, 180, 0, 52, 181, 0, 52, 42, 43]
abbrev dktX8_init_2_3 : List UInt8 := dkwX8_init_2_3 ++ dktX8_init_2_4
def dkwX8_init_2_2 : List UInt8 := [180, 0, 46, 181, 0, 46, 42, 43, 180, 0, 49, 181, 0, 49, 42, 43, 180, 0, 9, 181, 0, 9, 42, 43]
abbrev dktX8_init_2_2 : List UInt8 := dkwX8_init_2_2 ++ dktX8_init_2_3
def dkwX8_init_2_1 : List UInt8 := [180, 0, 40, 181, 0, 40, 42, 43, 180, 0, 34, 181, 0, 34, 42, 43, 180, 0, 43, 181, 0, 43, 42, 43]
abbrev dktX8_init_2_1 : List UInt8 := dkwX8_init_2_1 ++ dktX8_init_2_2
def dkwX8_init_2_0 : List UInt8 := [42, 43, 180, 0, 21, 43, 180, 0, 24, 43, 180, 0, 27, 43, 180, 0, 30, 183, 0, 37, 42, 43]
abbrev dktX8_init_2_0 : List UInt8 := dkwX8_init_2_0 ++ dktX8_init_2_1
theorem dksX8_init_2_0 : cX8_init_2.data.toList.drop 0 = dktX8_init_2_0 := by decide +kernel
theorem dksX8_init_2_1 : cX8_init_2.data.toList.drop 22 = dktX8_init_2_1 := dk_seg dksX8_init_2_0 22 rfl rfl
theorem dksX8_init_2_2 : cX8_init_2.data.toList.drop 46 = dktX8_init_2_2 := dk_seg dksX8_init_2_1 24 rfl rfl
theorem dksX8_init_2_3 : cX8_init_2.data.toList.drop 70 = dktX8_init_2_3 := dk_seg dksX8_init_2_2 24 rfl rfl
theorem dksX8_init_2_4 : cX8_init_2.data.toList.drop 94 = dktX8_init_2_4 := dk_seg dksX8_init_2_3 24 rfl rfl
theorem dksX8_init_2_5 : cX8_init_2.data.toList.drop 117 = dktX8_init_2_5 := dk_seg dksX8_init_2_4 23 rfl rfl
theorem dX8_init_2_0 : decode cX8_init_2 0 = .ok (.aload_n 0, 1) := dk_42 (dk_at dksX8_init_2_0 0 rfl rfl)
theorem dX8_init_2_1 : decode cX8_init_2 1 = .ok (.aload_n 1, 1) := dk_43 (dk_at dksX8_init_2_0 1 rfl rfl)
theorem dX8_init_2_2 : decode cX8_init_2 2 = .ok (.getfield 21, 3) := dk_180 0 21 (dk_at dksX8_init_2_0 2 rfl rfl)
theorem dX8_init_2_5 : decode cX8_init_2 5 = .ok (.aload_n 1, 1) := dk_43 (dk_at dksX8_init_2_0 5 rfl rfl)
theorem dX8_init_2_6 : decode cX8_init_2 6 = .ok (.getfield 24, 3) := dk_180 0 24 (dk_at dksX8_init_2_0 6 rfl rfl)
theorem dX8_init_2_9 : decode cX8_init_2 9 = .ok (.aload_n 1, 1) := dk_43 (dk_at dksX8_init_2_0 9 rfl rfl)
theorem dX8_init_2_10 : decode cX8_init_2 10 = .ok (.getfield 27, 3) := dk_180 0 27 (dk_at dksX8_init_2_0 10 rfl rfl)
theorem dX8_init_2_13 : decode cX8_init_2 13 = .ok (.aload_n 1, 1) := dk_43 (dk_at dksX8_init_2_0 13 rfl rfl)
theorem dX8_init_2_14 : decode cX8_init_2 14 = .ok (.getfield 30, 3) := dk_180 0 30 (dk_at dksX8_init_2_0 14 rfl rfl)
theorem dX8_init_2_17 : decode cX8_init_2 17 = .ok (.invokespecial 37, 3) := dk_183 0 37 (dk_at dksX8_init_2_0 17 rfl rfl)
theorem dX8_init_2_20 : decode cX8_init_2 20 = .ok (.aload_n 0, 1) := dk_42 (dk_at dksX8_init_2_0 20 rfl rfl)
theorem dX8_init_2_21 : decode cX8_init_2 21 = .ok (.aload_n 1, 1) := dk_43 (dk_at dksX8_init_2_0 21 rfl rfl)
theorem dX8_init_2_22 : decode cX8_init_2 22 = .ok (.getfield 40, 3) := dk_180 0 40 (dk_at dksX8_init_2_1 0 rfl rfl)
theorem dX8_init_2_25 : decode cX8_init_2 25 = .ok (.putfield 40, 3) := dk_181 0 40 (dk_at dksX8_init_2_1 3 rfl rfl)
theorem dX8_init_2_28 : decode cX8_init_2 28 = .ok (.aload_n 0, 1) := dk_42 (dk_at dksX8_init_2_1 6 rfl rfl)
theorem dX8_init_2_29 : decode cX8_init_2 29 = .ok (.aload_n 1, 1) := dk_43 (dk_at dksX8_init_2_1 7 rfl rfl)
theorem dX8_init_2_30 : decode cX8_init_2 30 = .ok (.getfield 34, 3) := dk_180 0 34 (dk_at dksX8_init_2_1 8 rfl rfl)
theorem dX8_init_2_33 : decode cX8_init_2 33 = .ok (.putfield 34, 3) := dk_181 0 34 (dk_at dksX8_init_2_1 11 rfl rfl)
theorem dX8_init_2_36 : decode cX8_init_2 36 = .ok (.aload_n 0, 1) := dk_42 (dk_at dksX8_init_2_1 14 rfl rfl)
theorem dX8_init_2_37 : decode cX8_init_2 37 = .ok (.aload_n 1, 1) := dk_43 (dk_at dksX8_init_2_1 15 rfl rfl)
theorem dX8_init_2_38 : decode cX8_init_2 38 = .ok (.getfield 43, 3) := dk_180 0 43 (dk_at dksX8_init_2_1 16 rfl rfl)
theorem dX8_init_2_41 : decode cX8_init_2 41 = .ok (.putfield 43, 3) := dk_181 0 43 (dk_at dksX8_init_2_1 19 rfl rfl)
theorem dX8_init_2_44 : decode cX8_init_2 44 = .ok (.aload_n 0, 1) := dk_42 (dk_at dksX8_init_2_1 22 rfl rfl)
theorem dX8_init_2_45 : decode cX8_init_2 45 = .ok (.aload_n 1, 1) := dk_43 (dk_at dksX8_init_2_1 23 rfl rfl)
theorem dX8_init_2_46 : decode cX8_init_2 46 = .ok (.getfield 46, 3) := dk_180 0 46 (dk_at dksX8_init_2_2 0 rfl rfl)
theorem dX8_init_2_49 : decode cX8_init_2 49 = .ok (.putfield 46, 3) := dk_181 0 46 (dk_at dksX8_init_2_2 3 rfl rfl)
theorem dX8_init_2_52 : decode cX8_init_2 52 = .ok (.aload_n 0, 1) := dk_42 (dk_at dksX8_init_2_2 6 rfl rfl)
theorem dX8_init_2_53 : decode cX8_init_2 53 = .ok (.aload_n 1, 1) := dk_43 (dk_at dksX8_init_2_2 7 rfl rfl)
theorem dX8_init_2_54 : decode cX8_init_2 54 = .ok (.getfield 49, 3) := dk_180 0 49 (dk_at dksX8_init_2_2 8 rfl rfl)
theorem dX8_init_2_57 : decode cX8_init_2 57 = .ok (.putfield 49, 3) := dk_181 0 49 (dk_at dksX8_init_2_2 11 rfl rfl)
theorem dX8_init_2_60 : decode cX8_init_2 60 = .ok (.aload_n 0, 1) := dk_42 (dk_at dksX8_init_2_2 14 rfl rfl)
theorem dX8_init_2_61 : decode cX8_init_2 61 = .ok (.aload_n 1, 1) := dk_43 (dk_at dksX8_init_2_2 15 rfl rfl)
theorem dX8_init_2_62 : decode cX8_init_2 62 = .ok (.getfield 9, 3) := dk_180 0 9 (dk_at dksX8_init_2_2 16 rfl rfl)
theorem dX8_init_2_65 : decode cX8_init_2 65 = .ok (.putfield 9, 3) := dk_181 0 9 (dk_at dksX8_init_2_2 19 rfl rfl)
theorem dX8_init_2_68 : decode cX8_init_2 68 = .ok (.aload_n 0, 1) := dk_42 (dk_at dksX8_init_2_2 22 rfl rfl)
theorem dX8_init_2_69 : decode cX8_init_2 69 = .ok (.aload_n 1, 1) := dk_43 (dk_at dksX8_init_2_2 23 rfl rfl)
theorem dX8_init_2_70 : decode cX8_init_2 70 = .ok (.getfield 15, 3) := dk_180 0 15 (dk_at dksX8_init_2_3 0 rfl rfl)
theorem dX8_init_2_73 : decode cX8_init_2 73 = .ok (.putfield 15, 3) := dk_181 0 15 (dk_at dksX8_init_2_3 3 rfl rfl)
theorem dX8_init_2_76 : decode cX8_init_2 76 = .ok (.aload_n 0, 1) := dk_42 (dk_at dksX8_init_2_3 6 rfl rfl)
theorem dX8_init_2_77 : decode cX8_init_2 77 = .ok (.aload_n 1, 1) := dk_43 (dk_at dksX8_init_2_3 7 rfl rfl)
theorem dX8_init_2_78 : decode cX8_init_2 78 = .ok (.getfield 18, 3) := dk_180 0 18 (dk_at dksX8_init_2_3 8 rfl rfl)
theorem dX8_init_2_81 : decode cX8_init_2 81 = .ok (.putfield 18, 3) := dk_181 0 18 (dk_at dksX8_init_2_3 11 rfl rfl)
theorem dX8_init_2_84 : decode cX8_init_2 84 = .ok (.aload_n 0, 1) := dk_42 (dk_at dksX8_init_2_3 14 rfl rfl)
theorem dX8_init_2_85 : decode cX8_init_2 85 = .ok (.aload_n 1, 1) := dk_43 (dk_at dksX8_init_2_3 15 rfl rfl)
theorem dX8_init_2_86 : decode cX8_init_2 86 = .ok (.getfield 52, 3) := dk_180 0 52 (dk_at dksX8_init_2_3 16 rfl rfl)
theorem dX8_init_2_89 : decode cX8_init_2 89 = .ok (.putfield 52, 3) := dk_181 0 52 (dk_at dksX8_init_2_3 19 rfl rfl)
theorem dX8_init_2_92 : decode cX8_init_2 92 = .ok (.aload_n 0, 1) := dk_42 (dk_at dksX8_init_2_3 22 rfl rfl)
theorem dX8_init_2_93 : decode cX8_init_2 93 = .ok (.aload_n 1, 1) := dk_43 (dk_at dksX8_init_2_3 23 rfl rfl)
theorem dX8_init_2_94 : decode cX8_init_2 94 = .ok (.getfield 55, 3) := dk_180 0 55 (dk_at dksX8_init_2_4 0 rfl rfl)
theorem dX8_init_2_97 : decode cX8_init_2 97 = .ok (.putfield 55, 3) := dk_181 0 55 (dk_at dksX8_init_2_4 3 rfl rfl)
theorem dX8_init_2_100 : decode cX8_init_2 100 = .ok (.aload_n 0, 1) := dk_42 (dk_at dksX8_init_2_4 6 rfl rfl)
theorem dX8_init_2_101 : decode cX8_init_2 101 = .ok (.aload_n 1, 1) := dk_43 (dk_at dksX8_init_2_4 7 rfl rfl)
theorem dX8_init_2_102 : decode cX8_init_2 102 = .ok (.getfield 58, 3) := dk_180 0 58 (dk_at dksX8_init_2_4 8 rfl rfl)
theorem dX8_init_2_105 : decode cX8_init_2 105 = .ok (.ifnonnull 7, 3) := dk_199 0 7 (dk_at dksX8_init_2_4 11 rfl rfl)
theorem dX8_init_2_108 : decode cX8_init_2 108 = .ok (.aconst_null, 1) := dk_1 (dk_at dksX8_init_2_4 14 rfl rfl)
theorem dX8_init_2_109 : decode cX8_init_2 109 = .ok (.goto 14, 3) := dk_167 0 14 (dk_at dksX8_init_2_4 15 rfl rfl)
theorem dX8_init_2_112 : decode cX8_init_2 112 = .ok (.new 62, 3) := dk_187 0 62 (dk_at dksX8_init_2_4 18 rfl rfl)
theorem dX8_init_2_115 : decode cX8_init_2 115 = .ok (.dup, 1) := dk_89 (dk_at dksX8_init_2_4 21 rfl rfl)
theorem dX8_init_2_116 : decode cX8_init_2 116 = .ok (.aload_n 1, 1) := dk_43 (dk_at dksX8_init_2_4 22 rfl rfl)
theorem dX8_init_2_117 : decode cX8_init_2 117 = .ok (.getfield 58, 3) := dk_180 0 58 (dk_at dksX8_init_2_5 0 rfl rfl)
theorem dX8_init_2_120 : decode cX8_init_2 120 = .ok (.invokespecial 64, 3) := dk_183 0 64 (dk_at dksX8_init_2_5 3 rfl rfl)
theorem dX8_init_2_123 : decode cX8_init_2 123 = .ok (.putfield 58, 3) := dk_181 0 58 (dk_at dksX8_init_2_5 6 rfl rfl)
theorem dX8_init_2_126 : decode cX8_init_2 126 = .ok (.return_, 1) := dk_177 (dk_at dksX8_init_2_5 9 rfl rfl)
theorem q130 : (Jvm.Cond.initialized "MaskedEars$Task") ∈ lw_all := lw_g (lw_at lw_m1 25 rfl) rfl
theorem q268 : (Jvm.Cond.fieldLinkNest "MaskedEars$Task" (131 : Nat) "MaskedEars$Told" "rise" "I" "MaskedEars") ∈ lw_tbl := lw_at lw_m1 163 rfl
theorem q271 : (Jvm.Cond.fieldLinkNest "MaskedEars$Task" (128 : Nat) "MaskedEars$Told" "flats" "I" "MaskedEars") ∈ lw_tbl := lw_at lw_m1 166 rfl
theorem q614 : (Jvm.Cond.selects "MaskedEars$Task" ({ cls := "java/lang/Object", name := "getClass", desc := "()Ljava/lang/Class;" } : Jvm.MethodName) ({ cls := "java/lang/Object", name := "getClass", desc := "()Ljava/lang/Class;" } : Jvm.MethodName)) ∈ lw_all := lw_g (lw_at lw_m3 29 rfl) rfl
theorem q647 : (Jvm.Cond.instantiable "MaskedEars$Task" (15 : Nat)) ∈ lw_all := lw_g (lw_at lw_m3 62 rfl) rfl
theorem q649 : (Jvm.Cond.instanceMethod ({ cls := "MaskedEars$Task", name := "<init>", desc := "(IIIZ)V" } : Jvm.MethodName)) ∈ lw_all := lw_g (lw_at lw_m3 64 rfl) rfl
theorem q650 : (Jvm.Cond.code ({ cls := "MaskedEars$Task", name := "<init>", desc := "(IIIZ)V" } : Jvm.MethodName) prog_9_method_1_code (5 : Nat) (Option.none : Option Jvm.ClassFile.FieldType)) ∈ lw_all := lw_g (lw_at lw_m3 65 rfl) rfl
theorem q651 : (Jvm.Cond.methodLink "MaskedEars$Task" (3 : Nat) ({ cls := "java/lang/Object", name := "<init>", desc := "()V" } : Jvm.MethodName)) ∈ lw_all := lw_g (lw_at lw_m3 66 rfl) rfl
theorem q652 : (Jvm.Cond.fieldLink "MaskedEars$Task" (21 : Nat) "MaskedEars$Task" "route" "I") ∈ lw_all := lw_g (lw_at lw_m3 67 rfl) rfl
theorem q655 : (Jvm.Cond.fieldLink "MaskedEars$Task" (24 : Nat) "MaskedEars$Task" "ear" "I") ∈ lw_all := lw_g (lw_at lw_m3 70 rfl) rfl
theorem q658 : (Jvm.Cond.fieldLink "MaskedEars$Task" (27 : Nat) "MaskedEars$Task" "tone" "I") ∈ lw_all := lw_g (lw_at lw_m3 73 rfl) rfl
theorem q661 : (Jvm.Cond.fieldLink "MaskedEars$Task" (30 : Nat) "MaskedEars$Task" "isMasked" "Z") ∈ lw_all := lw_g (lw_at lw_m3 76 rfl) rfl
theorem q664 : (Jvm.Cond.fieldLink "MaskedEars$Task" (40 : Nat) "MaskedEars$Task" "state" "I") ∈ lw_all := lw_g (lw_at lw_m3 79 rfl) rfl
theorem q667 : (Jvm.Cond.fieldLink "MaskedEars$Task" (34 : Nat) "MaskedEars$Task" "threshold" "I") ∈ lw_all := lw_g (lw_at lw_m3 82 rfl) rfl
theorem q670 : (Jvm.Cond.fieldLink "MaskedEars$Task" (43 : Nat) "MaskedEars$Task" "shown" "I") ∈ lw_all := lw_g (lw_at lw_m3 85 rfl) rfl
theorem q672 : (Jvm.Cond.fieldLink "MaskedEars$Task" (46 : Nat) "MaskedEars$Task" "searches" "I") ∈ lw_all := lw_g (lw_at lw_m3 87 rfl) rfl
theorem q674 : (Jvm.Cond.fieldLink "MaskedEars$Task" (49 : Nat) "MaskedEars$Task" "odd" "I") ∈ lw_all := lw_g (lw_at lw_m3 89 rfl) rfl
theorem q676 : (Jvm.Cond.fieldLink "MaskedEars$Task" (9 : Nat) "MaskedEars$Task" "loudest" "I") ∈ lw_all := lw_g (lw_at lw_m3 91 rfl) rfl
theorem q678 : (Jvm.Cond.fieldLink "MaskedEars$Task" (15 : Nat) "MaskedEars$Task" "provedFrom" "I") ∈ lw_all := lw_g (lw_at lw_m3 93 rfl) rfl
theorem q680 : (Jvm.Cond.fieldLink "MaskedEars$Task" (18 : Nat) "MaskedEars$Task" "noise" "I") ∈ lw_all := lw_g (lw_at lw_m3 95 rfl) rfl
theorem q683 : (Jvm.Cond.fieldLink "MaskedEars$Task" (52 : Nat) "MaskedEars$Task" "last" "I") ∈ lw_all := lw_g (lw_at lw_m3 98 rfl) rfl
theorem q684 : (Jvm.Cond.fieldLink "MaskedEars$Task" (55 : Nat) "MaskedEars$Task" "flats" "I") ∈ lw_all := lw_g (lw_at lw_m3 99 rfl) rfl
theorem q686 : (Jvm.Cond.fieldLink "MaskedEars$Task" (58 : Nat) "MaskedEars$Task" "search" "LMaskedEars$Search;") ∈ lw_all := lw_g (lw_at lw_m3 101 rfl) rfl
theorem q689 : (Jvm.Cond.laysFinal "MaskedEars$Task" "MaskedEars$Task" "route" "I") ∈ lw_all := lw_g (lw_at lw_m3 104 rfl) rfl
theorem q690 : (Jvm.Cond.soleField "MaskedEars$Task" "route") ∈ lw_all := lw_g (lw_at lw_m3 105 rfl) rfl
theorem q691 : (Jvm.Cond.laysFinal "MaskedEars$Task" "MaskedEars$Task" "ear" "I") ∈ lw_all := lw_g (lw_at lw_m3 106 rfl) rfl
theorem q692 : (Jvm.Cond.soleField "MaskedEars$Task" "ear") ∈ lw_all := lw_g (lw_at lw_m3 107 rfl) rfl
theorem q693 : (Jvm.Cond.laysFinal "MaskedEars$Task" "MaskedEars$Task" "tone" "I") ∈ lw_all := lw_g (lw_at lw_m3 108 rfl) rfl
theorem q694 : (Jvm.Cond.soleField "MaskedEars$Task" "tone") ∈ lw_all := lw_g (lw_at lw_m3 109 rfl) rfl
theorem q695 : (Jvm.Cond.laysFinal "MaskedEars$Task" "MaskedEars$Task" "isMasked" "Z") ∈ lw_all := lw_g (lw_at lw_m3 110 rfl) rfl
theorem q696 : (Jvm.Cond.soleField "MaskedEars$Task" "isMasked") ∈ lw_all := lw_g (lw_at lw_m3 111 rfl) rfl
theorem q697 : (Jvm.Cond.lays "MaskedEars$Task" "MaskedEars$Task" "state" "I") ∈ lw_all := lw_g (lw_at lw_m3 112 rfl) rfl
theorem q698 : (Jvm.Cond.soleField "MaskedEars$Task" "state") ∈ lw_all := lw_g (lw_at lw_m3 113 rfl) rfl
theorem q699 : (Jvm.Cond.lays "MaskedEars$Task" "MaskedEars$Task" "threshold" "I") ∈ lw_all := lw_g (lw_at lw_m3 114 rfl) rfl
theorem q700 : (Jvm.Cond.soleField "MaskedEars$Task" "threshold") ∈ lw_all := lw_g (lw_at lw_m3 115 rfl) rfl
theorem q701 : (Jvm.Cond.lays "MaskedEars$Task" "MaskedEars$Task" "shown" "I") ∈ lw_all := lw_g (lw_at lw_m3 116 rfl) rfl
theorem q702 : (Jvm.Cond.soleField "MaskedEars$Task" "shown") ∈ lw_all := lw_g (lw_at lw_m3 117 rfl) rfl
theorem q703 : (Jvm.Cond.lays "MaskedEars$Task" "MaskedEars$Task" "searches" "I") ∈ lw_all := lw_g (lw_at lw_m3 118 rfl) rfl
theorem q704 : (Jvm.Cond.soleField "MaskedEars$Task" "searches") ∈ lw_all := lw_g (lw_at lw_m3 119 rfl) rfl
theorem q705 : (Jvm.Cond.lays "MaskedEars$Task" "MaskedEars$Task" "odd" "I") ∈ lw_all := lw_g (lw_at lw_m3 120 rfl) rfl
theorem q706 : (Jvm.Cond.soleField "MaskedEars$Task" "odd") ∈ lw_all := lw_g (lw_at lw_m3 121 rfl) rfl
theorem q707 : (Jvm.Cond.lays "MaskedEars$Task" "MaskedEars$Task" "loudest" "I") ∈ lw_all := lw_g (lw_at lw_m3 122 rfl) rfl
theorem q708 : (Jvm.Cond.soleField "MaskedEars$Task" "loudest") ∈ lw_all := lw_g (lw_at lw_m3 123 rfl) rfl
theorem q709 : (Jvm.Cond.lays "MaskedEars$Task" "MaskedEars$Task" "provedFrom" "I") ∈ lw_all := lw_g (lw_at lw_m3 124 rfl) rfl
theorem q710 : (Jvm.Cond.soleField "MaskedEars$Task" "provedFrom") ∈ lw_all := lw_g (lw_at lw_m3 125 rfl) rfl
theorem q711 : (Jvm.Cond.lays "MaskedEars$Task" "MaskedEars$Task" "noise" "I") ∈ lw_all := lw_g (lw_at lw_m3 126 rfl) rfl
theorem q712 : (Jvm.Cond.soleField "MaskedEars$Task" "noise") ∈ lw_all := lw_g (lw_at lw_m3 127 rfl) rfl
theorem q713 : (Jvm.Cond.lays "MaskedEars$Task" "MaskedEars$Task" "last" "I") ∈ lw_all := lw_g (lw_at lw_m3 128 rfl) rfl
theorem q714 : (Jvm.Cond.soleField "MaskedEars$Task" "last") ∈ lw_all := lw_g (lw_at lw_m3 129 rfl) rfl
theorem q715 : (Jvm.Cond.lays "MaskedEars$Task" "MaskedEars$Task" "flats" "I") ∈ lw_all := lw_g (lw_at lw_m3 130 rfl) rfl
theorem q716 : (Jvm.Cond.soleField "MaskedEars$Task" "flats") ∈ lw_all := lw_g (lw_at lw_m3 131 rfl) rfl
theorem q717 : (Jvm.Cond.lays "MaskedEars$Task" "MaskedEars$Task" "search" "LMaskedEars$Search;") ∈ lw_all := lw_g (lw_at lw_m3 132 rfl) rfl
theorem q718 : (Jvm.Cond.soleField "MaskedEars$Task" "search") ∈ lw_all := lw_g (lw_at lw_m3 133 rfl) rfl
theorem q719 : (Jvm.Cond.superclass "MaskedEars$Task" "java/lang/Object") ∈ lw_all := lw_g (lw_at lw_m3 134 rfl) rfl
theorem q821 : (Jvm.Cond.instanceMethod ({ cls := "MaskedEars$Task", name := "isThrough", desc := "()Z" } : Jvm.MethodName)) ∈ lw_all := lw_g (lw_at lw_m3 236 rfl) rfl
theorem q822 : (Jvm.Cond.selects "MaskedEars$Task" ({ cls := "MaskedEars$Task", name := "isThrough", desc := "()Z" } : Jvm.MethodName) ({ cls := "MaskedEars$Task", name := "isThrough", desc := "()Z" } : Jvm.MethodName)) ∈ lw_all := lw_g (lw_at lw_m3 237 rfl) rfl
theorem q823 : (Jvm.Cond.code ({ cls := "MaskedEars$Task", name := "isThrough", desc := "()Z" } : Jvm.MethodName) prog_9_method_3_code (1 : Nat) (Option.some Jvm.ClassFile.FieldType.boolean)) ∈ lw_all := lw_g (lw_at lw_m3 238 rfl) rfl
theorem q831 : (Jvm.Cond.instanceMethod ({ cls := "MaskedEars$Task", name := "begins", desc := "(LMaskedEars$Test;)V" } : Jvm.MethodName)) ∈ lw_all := lw_g (lw_at lw_m4 6 rfl) rfl
theorem q832 : (Jvm.Cond.selects "MaskedEars$Task" ({ cls := "MaskedEars$Task", name := "begins", desc := "(LMaskedEars$Test;)V" } : Jvm.MethodName) ({ cls := "MaskedEars$Task", name := "begins", desc := "(LMaskedEars$Test;)V" } : Jvm.MethodName)) ∈ lw_all := lw_g (lw_at lw_m4 7 rfl) rfl
theorem q833 : (Jvm.Cond.codeWith ({ cls := "MaskedEars$Task", name := "begins", desc := "(LMaskedEars$Test;)V" } : Jvm.MethodName) prog_9_method_5_code (3 : Nat) (Option.none : Option Jvm.ClassFile.FieldType) [((69 : Nat), (93 : Nat), (96 : Nat), (99 : Nat))]) ∈ lw_all := lw_g (lw_at lw_m4 8 rfl) rfl
theorem q834 : (Jvm.Cond.classLink "MaskedEars$Task" (99 : Nat) "MaskedEars$Dilemma") ∈ lw_all := lw_g (lw_at lw_m4 9 rfl) rfl
theorem q835 : (Jvm.Cond.methodLink "MaskedEars$Task" (67 : Nat) ({ cls := "MaskedEars$Task", name := "clears", desc := "(I)V" } : Jvm.MethodName)) ∈ lw_all := lw_g (lw_at lw_m4 10 rfl) rfl
theorem q836 : (Jvm.Cond.privateMethod ({ cls := "MaskedEars$Task", name := "clears", desc := "(I)V" } : Jvm.MethodName)) ∈ lw_tbl := lw_at lw_m4 11 rfl
theorem q837 : (Jvm.Cond.instanceMethod ({ cls := "MaskedEars$Task", name := "clears", desc := "(I)V" } : Jvm.MethodName)) ∈ lw_all := lw_g (lw_at lw_m4 12 rfl) rfl
theorem q838 : (Jvm.Cond.code ({ cls := "MaskedEars$Task", name := "clears", desc := "(I)V" } : Jvm.MethodName) prog_9_method_4_code (2 : Nat) (Option.none : Option Jvm.ClassFile.FieldType)) ∈ lw_all := lw_g (lw_at lw_m4 13 rfl) rfl
theorem q839 : (Jvm.Cond.classLink "MaskedEars$Task" (62 : Nat) "MaskedEars$Search") ∈ lw_all := lw_g (lw_at lw_m4 14 rfl) rfl
theorem q841 : (Jvm.Cond.methodLink "MaskedEars$Task" (71 : Nat) ({ cls := "MaskedEars$Search", name := "<init>", desc := "(I)V" } : Jvm.MethodName)) ∈ lw_all := lw_g (lw_at lw_m4 16 rfl) rfl
theorem q873 : (Jvm.Cond.methodLink "MaskedEars$Task" (73 : Nat) ({ cls := "MaskedEars$Test", name := "areThrough", desc := "(IZ)Z" } : Jvm.MethodName)) ∈ lw_all := lw_g (lw_at lw_m4 48 rfl) rfl
theorem q874 : (Jvm.Cond.classLink "MaskedEars$Task" (79 : Nat) "MaskedEars$Unproved") ∈ lw_all := lw_g (lw_at lw_m4 49 rfl) rfl
theorem q883 : (Jvm.Cond.classLink "MaskedEars$Task" (81 : Nat) "MaskedEars$Lost") ∈ lw_all := lw_g (lw_at lw_m4 58 rfl) rfl
theorem q892 : (Jvm.Cond.methodLink "MaskedEars$Task" (83 : Nat) ({ cls := "MaskedEars$Lost", name := "<init>", desc := "()V" } : Jvm.MethodName)) ∈ lw_all := lw_g (lw_at lw_m4 67 rfl) rfl
theorem q898 : (Jvm.Cond.methodLink "MaskedEars$Task" (84 : Nat) ({ cls := "MaskedEars$Unproved", name := "<init>", desc := "(Ljava/lang/Exception;)V" } : Jvm.MethodName)) ∈ lw_all := lw_g (lw_at lw_m4 73 rfl) rfl
theorem q904 : (Jvm.Cond.methodLink "MaskedEars$Task" (87 : Nat) ({ cls := "MaskedEars$Test", name := "first", desc := "(II)I" } : Jvm.MethodName)) ∈ lw_all := lw_g (lw_at lw_m4 79 rfl) rfl
theorem q908 : (Jvm.Cond.methodLink "MaskedEars$Task" (91 : Nat) ({ cls := "MaskedEars$Test", name := "plain", desc := "(III)LMaskedEars$Task;" } : Jvm.MethodName)) ∈ lw_all := lw_g (lw_at lw_m4 83 rfl) rfl
theorem q909 : (Jvm.Cond.methodLink "MaskedEars$Task" (95 : Nat) ({ cls := "MaskedEars$Task", name := "quiets", desc := "(LMaskedEars$Test;I)V" } : Jvm.MethodName)) ∈ lw_all := lw_g (lw_at lw_m4 84 rfl) rfl
theorem q910 : (Jvm.Cond.privateMethod ({ cls := "MaskedEars$Task", name := "quiets", desc := "(LMaskedEars$Test;I)V" } : Jvm.MethodName)) ∈ lw_tbl := lw_at lw_m4 85 rfl
theorem q911 : (Jvm.Cond.instanceMethod ({ cls := "MaskedEars$Task", name := "quiets", desc := "(LMaskedEars$Test;I)V" } : Jvm.MethodName)) ∈ lw_all := lw_g (lw_at lw_m4 86 rfl) rfl
theorem q912 : (Jvm.Cond.code ({ cls := "MaskedEars$Task", name := "quiets", desc := "(LMaskedEars$Test;I)V" } : Jvm.MethodName) prog_9_method_6_code (3 : Nat) (Option.none : Option Jvm.ClassFile.FieldType)) ∈ lw_all := lw_g (lw_at lw_m4 87 rfl) rfl
theorem q913 : (Jvm.Cond.methodLink "MaskedEars$Task" (104 : Nat) ({ cls := "MaskedEars$Test", name := "bound", desc := "(II)I" } : Jvm.MethodName)) ∈ lw_all := lw_g (lw_at lw_m4 88 rfl) rfl
theorem q925 : (Jvm.Cond.methodLink "MaskedEars$Task" (107 : Nat) ({ cls := "MaskedEars$Dilemma", name := "<init>", desc := "()V" } : Jvm.MethodName)) ∈ lw_all := lw_g (lw_at lw_m4 100 rfl) rfl
theorem q931 : (Jvm.Cond.methodLink "MaskedEars$Task" (108 : Nat) ({ cls := "java/lang/Math", name := "min", desc := "(II)I" } : Jvm.MethodName)) ∈ lw_all := lw_g (lw_at lw_m4 106 rfl) rfl
theorem q932 : (Jvm.Cond.methodLink "MaskedEars$Task" (101 : Nat) ({ cls := "MaskedEars$Task", name := "ends", desc := "()V" } : Jvm.MethodName)) ∈ lw_all := lw_g (lw_at lw_m4 107 rfl) rfl
theorem q933 : (Jvm.Cond.privateMethod ({ cls := "MaskedEars$Task", name := "ends", desc := "()V" } : Jvm.MethodName)) ∈ lw_tbl := lw_at lw_m4 108 rfl
theorem q934 : (Jvm.Cond.instanceMethod ({ cls := "MaskedEars$Task", name := "ends", desc := "()V" } : Jvm.MethodName)) ∈ lw_all := lw_g (lw_at lw_m4 109 rfl) rfl
theorem q935 : (Jvm.Cond.code ({ cls := "MaskedEars$Task", name := "ends", desc := "()V" } : Jvm.MethodName) prog_9_method_7_code (1 : Nat) (Option.none : Option Jvm.ClassFile.FieldType)) ∈ lw_all := lw_g (lw_at lw_m4 110 rfl) rfl
theorem q948 : (Jvm.Cond.fieldLinkNest "MaskedEars$Task" (124 : Nat) "MaskedEars$Test" "told" "LMaskedEars$Told;" "MaskedEars") ∈ lw_tbl := lw_at lw_m4 123 rfl
theorem q1157 : (Jvm.Cond.instanceMethod ({ cls := "MaskedEars$Task", name := "takes", desc := "(LMaskedEars$Test;Z)I" } : Jvm.MethodName)) ∈ lw_all := lw_g (lw_at lw_m5 92 rfl) rfl
theorem q1158 : (Jvm.Cond.selects "MaskedEars$Task" ({ cls := "MaskedEars$Task", name := "takes", desc := "(LMaskedEars$Test;Z)I" } : Jvm.MethodName) ({ cls := "MaskedEars$Task", name := "takes", desc := "(LMaskedEars$Test;Z)I" } : Jvm.MethodName)) ∈ lw_all := lw_g (lw_at lw_m5 93 rfl) rfl
theorem q1159 : (Jvm.Cond.codeWith ({ cls := "MaskedEars$Task", name := "takes", desc := "(LMaskedEars$Test;Z)I" } : Jvm.MethodName) prog_9_method_8_code (4 : Nat) (Option.some Jvm.ClassFile.FieldType.int) [((10 : Nat), (34 : Nat), (35 : Nat), (81 : Nat)), ((10 : Nat), (34 : Nat), (35 : Nat), (99 : Nat))]) ∈ lw_all := lw_g (lw_at lw_m5 94 rfl) rfl
theorem q1160 : (Jvm.Cond.methodLink "MaskedEars$Task" (113 : Nat) ({ cls := "MaskedEars$Search", name := "takes", desc := "(Z)I" } : Jvm.MethodName)) ∈ lw_all := lw_g (lw_at lw_m5 95 rfl) rfl
theorem q1161 : (Jvm.Cond.methodLink "MaskedEars$Task" (117 : Nat) ({ cls := "MaskedEars$Task", name := "finds", desc := "(LMaskedEars$Test;I)I" } : Jvm.MethodName)) ∈ lw_all := lw_g (lw_at lw_m5 96 rfl) rfl
theorem q1162 : (Jvm.Cond.privateMethod ({ cls := "MaskedEars$Task", name := "finds", desc := "(LMaskedEars$Test;I)I" } : Jvm.MethodName)) ∈ lw_tbl := lw_at lw_m5 97 rfl
theorem q1163 : (Jvm.Cond.instanceMethod ({ cls := "MaskedEars$Task", name := "finds", desc := "(LMaskedEars$Test;I)I" } : Jvm.MethodName)) ∈ lw_all := lw_g (lw_at lw_m5 98 rfl) rfl
theorem q1164 : (Jvm.Cond.code ({ cls := "MaskedEars$Task", name := "finds", desc := "(LMaskedEars$Test;I)I" } : Jvm.MethodName) prog_9_method_9_code (3 : Nat) (Option.some Jvm.ClassFile.FieldType.int)) ∈ lw_all := lw_g (lw_at lw_m5 99 rfl) rfl
theorem q1165 : (Jvm.Cond.methodLink "MaskedEars$Task" (121 : Nat) ({ cls := "MaskedEars$Search", name := "odd", desc := "(I)I" } : Jvm.MethodName)) ∈ lw_all := lw_g (lw_at lw_m5 100 rfl) rfl
theorem q1213 : (Jvm.Cond.selects "MaskedEars$Task" ({ cls := "java/lang/Object", name := "equals", desc := "(Ljava/lang/Object;)Z" } : Jvm.MethodName) ({ cls := "java/lang/Object", name := "equals", desc := "(Ljava/lang/Object;)Z" } : Jvm.MethodName)) ∈ lw_all := lw_g (lw_at lw_m5 148 rfl) rfl
theorem q1358 : (Jvm.Cond.instanceMethod ({ cls := "MaskedEars$Task", name := "<init>", desc := "(LMaskedEars$Task;)V" } : Jvm.MethodName)) ∈ lw_all := lw_g (lw_at lw_m6 53 rfl) rfl
theorem q1359 : (Jvm.Cond.code ({ cls := "MaskedEars$Task", name := "<init>", desc := "(LMaskedEars$Task;)V" } : Jvm.MethodName) prog_9_method_2_code (2 : Nat) (Option.none : Option Jvm.ClassFile.FieldType)) ∈ lw_all := lw_g (lw_at lw_m6 54 rfl) rfl
theorem q1360 : (Jvm.Cond.methodLink "MaskedEars$Task" (37 : Nat) ({ cls := "MaskedEars$Task", name := "<init>", desc := "(IIIZ)V" } : Jvm.MethodName)) ∈ lw_all := lw_g (lw_at lw_m6 55 rfl) rfl
theorem q1361 : (Jvm.Cond.methodLink "MaskedEars$Task" (64 : Nat) ({ cls := "MaskedEars$Search", name := "<init>", desc := "(LMaskedEars$Search;)V" } : Jvm.MethodName)) ∈ lw_all := lw_g (lw_at lw_m6 56 rfl) rfl
theorem q2007 : (Jvm.Cond.castable "MaskedEars$Task" "java/lang/Object") ∈ lw_tbl := lw_at lw_m8 222 rfl
theorem in_X8 : ∀ w ∈ wsX80, w ∈ lw_all := lw_in wsX80 [689, 691, 693, 695, 697, 699, 701, 703, 705, 707, 709, 711, 713, 715, 717] (by decide +kernel) (by decide +kernel)
/-! MaskedEars$Search -/
set_option maxRecDepth 100000
def RX9 : String := "MaskedEars$Search"
def TX9 : u_T := fun k => match k with
  | 0 => ("MaskedEars$Search", "ascents", "[I", true)
  | 1 => ("MaskedEars$Search", "latest", "[I", true)
  | 2 => ("MaskedEars$Search", "shown", "[I", true)
  | 3 => ("MaskedEars$Search", "heard", "[I", true)
  | 4 => ("MaskedEars$Search", "level", "I", false)
  | 5 => ("MaskedEars$Search", "ahead", "I", false)
  | _ => ("MaskedEars$Search", "many", "I", false)
def tyX9 : Nat → FieldType := fun k => match k with
  | 0 => .array .int
  | 1 => .array .int
  | 2 => .array .int
  | 3 => .array .int
  | 4 => .int
  | 5 => .int
  | _ => .int
abbrev wsX90 : List Cond := u_ws RX9 TX9 7
theorem nmX9 : ∀ a, a < 7 → ∀ b, b < 7 → a ≠ b → (TX9 a).2.1 ≠ (TX9 b).2.1 := by decide +kernel
theorem tyX9_ok : ∀ k, k < 7 → parseFieldDescriptor (TX9 k).2.2.1 = some (tyX9 k) := by decide +kernel
abbrev cX9_init : ByteArray := prog_7_method_1_code
def yX9_init : MethodName := ⟨RX9, "<init>", "(I)V"⟩
def dkwX9_init_1 : List UInt8 := [188, 10, 181, 0, 18, 42, 16, 25, 188, 10, 181, 0, 21, 42, 2, 181, 0, 24, 42, 27, 181, 0, 28, 177]
abbrev dktX9_init_1 : List UInt8 := dkwX9_init_1 ++ []
def dkwX9_init_0 : List UInt8 := [42, 183, 0, 3, 42, 16, 25, 188, 10, 181, 0, 9, 42, 16, 25, 188, 10, 181, 0, 15, 42, 16, 25]
abbrev dktX9_init_0 : List UInt8 := dkwX9_init_0 ++ dktX9_init_1
theorem dksX9_init_0 : cX9_init.data.toList.drop 0 = dktX9_init_0 := by decide +kernel
theorem dksX9_init_1 : cX9_init.data.toList.drop 23 = dktX9_init_1 := dk_seg dksX9_init_0 23 rfl rfl
theorem dX9_init_0 : decode cX9_init 0 = .ok (.aload_n 0, 1) := dk_42 (dk_at dksX9_init_0 0 rfl rfl)
theorem dX9_init_1 : decode cX9_init 1 = .ok (.invokespecial 3, 3) := dk_183 0 3 (dk_at dksX9_init_0 1 rfl rfl)
theorem dX9_init_4 : decode cX9_init 4 = .ok (.aload_n 0, 1) := dk_42 (dk_at dksX9_init_0 4 rfl rfl)
theorem dX9_init_5 : decode cX9_init 5 = .ok (.bipush 25, 2) := dk_16 25 (dk_at dksX9_init_0 5 rfl rfl)
theorem dX9_init_7 : decode cX9_init 7 = .ok (.newarray .int, 2) := dk_188_10 (dk_at dksX9_init_0 7 rfl rfl)
theorem dX9_init_9 : decode cX9_init 9 = .ok (.putfield 9, 3) := dk_181 0 9 (dk_at dksX9_init_0 9 rfl rfl)
theorem dX9_init_12 : decode cX9_init 12 = .ok (.aload_n 0, 1) := dk_42 (dk_at dksX9_init_0 12 rfl rfl)
theorem dX9_init_13 : decode cX9_init 13 = .ok (.bipush 25, 2) := dk_16 25 (dk_at dksX9_init_0 13 rfl rfl)
theorem dX9_init_15 : decode cX9_init 15 = .ok (.newarray .int, 2) := dk_188_10 (dk_at dksX9_init_0 15 rfl rfl)
theorem dX9_init_17 : decode cX9_init 17 = .ok (.putfield 15, 3) := dk_181 0 15 (dk_at dksX9_init_0 17 rfl rfl)
theorem dX9_init_20 : decode cX9_init 20 = .ok (.aload_n 0, 1) := dk_42 (dk_at dksX9_init_0 20 rfl rfl)
theorem dX9_init_21 : decode cX9_init 21 = .ok (.bipush 25, 2) := dk_16 25 (dk_at dksX9_init_0 21 rfl rfl)
theorem dX9_init_23 : decode cX9_init 23 = .ok (.newarray .int, 2) := dk_188_10 (dk_at dksX9_init_1 0 rfl rfl)
theorem dX9_init_25 : decode cX9_init 25 = .ok (.putfield 18, 3) := dk_181 0 18 (dk_at dksX9_init_1 2 rfl rfl)
theorem dX9_init_28 : decode cX9_init 28 = .ok (.aload_n 0, 1) := dk_42 (dk_at dksX9_init_1 5 rfl rfl)
theorem dX9_init_29 : decode cX9_init 29 = .ok (.bipush 25, 2) := dk_16 25 (dk_at dksX9_init_1 6 rfl rfl)
theorem dX9_init_31 : decode cX9_init 31 = .ok (.newarray .int, 2) := dk_188_10 (dk_at dksX9_init_1 8 rfl rfl)
theorem dX9_init_33 : decode cX9_init 33 = .ok (.putfield 21, 3) := dk_181 0 21 (dk_at dksX9_init_1 10 rfl rfl)
theorem dX9_init_36 : decode cX9_init 36 = .ok (.aload_n 0, 1) := dk_42 (dk_at dksX9_init_1 13 rfl rfl)
theorem dX9_init_37 : decode cX9_init 37 = .ok (.iconst (-1), 1) := dk_2 (dk_at dksX9_init_1 14 rfl rfl)
theorem dX9_init_38 : decode cX9_init 38 = .ok (.putfield 24, 3) := dk_181 0 24 (dk_at dksX9_init_1 15 rfl rfl)
theorem dX9_init_41 : decode cX9_init 41 = .ok (.aload_n 0, 1) := dk_42 (dk_at dksX9_init_1 18 rfl rfl)
theorem dX9_init_42 : decode cX9_init 42 = .ok (.iload_n 1, 1) := dk_27 (dk_at dksX9_init_1 19 rfl rfl)
theorem dX9_init_43 : decode cX9_init 43 = .ok (.putfield 28, 3) := dk_181 0 28 (dk_at dksX9_init_1 20 rfl rfl)
theorem dX9_init_46 : decode cX9_init 46 = .ok (.return_, 1) := dk_177 (dk_at dksX9_init_1 23 rfl rfl)
abbrev cX9_takes : ByteArray := prog_7_method_6_code
def yX9_takes : MethodName := ⟨RX9, "takes", "(Z)I"⟩
def dkwX9_takes_7 : List UInt8 := [180, 0, 37, 16, 30, 160, 0, 11, 187, 0, 62, 89, 183, 0, 64, 191, 2, 172]
abbrev dktX9_takes_7 : List UInt8 := dkwX9_takes_7 ++ []
def dkwX9_takes_6 : List UInt8 := [172, 42, 180, 0, 18, 16, 24, 46, 42, 180, 0, 21, 16, 24, 46, 100, 5, 160, 0, 6, 16, 25, 172, 42]
abbrev dktX9_takes_6 : List UInt8 := dkwX9_takes_6 ++ dktX9_takes_7
def dkwX9_takes_5 : List UInt8 := [42, 28, 182, 0, 59, 4, 163, 0, 17, 28, 154, 0, 15, 42, 180, 0, 21, 3, 46, 5, 160, 0, 5, 28]
abbrev dktX9_takes_5 : List UInt8 := dkwX9_takes_5 ++ dktX9_takes_6
def dkwX9_takes_4 : List UInt8 := [28, 5, 100, 184, 0, 50, 167, 0, 11, 16, 24, 28, 4, 96, 184, 0, 56, 181, 0, 28, 29, 153, 0, 12]
abbrev dktX9_takes_4 : List UInt8 := dkwX9_takes_4 ++ dktX9_takes_5
def dkwX9_takes_3 : List UInt8 := [153, 0, 7, 4, 167, 0, 4, 3, 128, 16, 7, 126, 79, 42, 28, 181, 0, 24, 42, 27, 153, 0, 13, 3]
abbrev dktX9_takes_3 : List UInt8 := dkwX9_takes_3 ++ dktX9_takes_4
def dkwX9_takes_2 : List UInt8 := [42, 180, 0, 9, 28, 92, 46, 4, 96, 79, 42, 180, 0, 15, 28, 42, 180, 0, 15, 28, 46, 4, 120, 27]
abbrev dktX9_takes_2 : List UInt8 := dkwX9_takes_2 ++ dktX9_takes_3
def dkwX9_takes_1 : List UInt8 := [28, 92, 46, 4, 96, 79, 27, 153, 0, 13, 42, 180, 0, 21, 28, 92, 46, 4, 96, 79, 29, 153, 0, 40]
abbrev dktX9_takes_1 : List UInt8 := dkwX9_takes_1 ++ dktX9_takes_2
def dkwX9_takes_0 : List UInt8 := [42, 180, 0, 28, 61, 42, 182, 0, 46, 62, 42, 89, 180, 0, 37, 4, 96, 181, 0, 37, 42, 180, 0, 18]
abbrev dktX9_takes_0 : List UInt8 := dkwX9_takes_0 ++ dktX9_takes_1
theorem dksX9_takes_0 : cX9_takes.data.toList.drop 0 = dktX9_takes_0 := by decide +kernel
theorem dksX9_takes_1 : cX9_takes.data.toList.drop 24 = dktX9_takes_1 := dk_seg dksX9_takes_0 24 rfl rfl
theorem dksX9_takes_2 : cX9_takes.data.toList.drop 48 = dktX9_takes_2 := dk_seg dksX9_takes_1 24 rfl rfl
theorem dksX9_takes_3 : cX9_takes.data.toList.drop 72 = dktX9_takes_3 := dk_seg dksX9_takes_2 24 rfl rfl
theorem dksX9_takes_4 : cX9_takes.data.toList.drop 96 = dktX9_takes_4 := dk_seg dksX9_takes_3 24 rfl rfl
theorem dksX9_takes_5 : cX9_takes.data.toList.drop 120 = dktX9_takes_5 := dk_seg dksX9_takes_4 24 rfl rfl
theorem dksX9_takes_6 : cX9_takes.data.toList.drop 144 = dktX9_takes_6 := dk_seg dksX9_takes_5 24 rfl rfl
theorem dksX9_takes_7 : cX9_takes.data.toList.drop 168 = dktX9_takes_7 := dk_seg dksX9_takes_6 24 rfl rfl
theorem dX9_takes_0 : decode cX9_takes 0 = .ok (.aload_n 0, 1) := dk_42 (dk_at dksX9_takes_0 0 rfl rfl)
theorem dX9_takes_1 : decode cX9_takes 1 = .ok (.getfield 28, 3) := dk_180 0 28 (dk_at dksX9_takes_0 1 rfl rfl)
theorem dX9_takes_4 : decode cX9_takes 4 = .ok (.istore_n 2, 1) := dk_61 (dk_at dksX9_takes_0 4 rfl rfl)
theorem dX9_takes_5 : decode cX9_takes 5 = .ok (.aload_n 0, 1) := dk_42 (dk_at dksX9_takes_0 5 rfl rfl)
theorem dX9_takes_6 : decode cX9_takes 6 = .ok (.invokevirtual 46, 3) := dk_182 0 46 (dk_at dksX9_takes_0 6 rfl rfl)
theorem dX9_takes_9 : decode cX9_takes 9 = .ok (.istore_n 3, 1) := dk_62 (dk_at dksX9_takes_0 9 rfl rfl)
theorem dX9_takes_10 : decode cX9_takes 10 = .ok (.aload_n 0, 1) := dk_42 (dk_at dksX9_takes_0 10 rfl rfl)
theorem dX9_takes_11 : decode cX9_takes 11 = .ok (.dup, 1) := dk_89 (dk_at dksX9_takes_0 11 rfl rfl)
theorem dX9_takes_12 : decode cX9_takes 12 = .ok (.getfield 37, 3) := dk_180 0 37 (dk_at dksX9_takes_0 12 rfl rfl)
theorem dX9_takes_15 : decode cX9_takes 15 = .ok (.iconst 1, 1) := dk_4 (dk_at dksX9_takes_0 15 rfl rfl)
theorem dX9_takes_16 : decode cX9_takes 16 = .ok (.iadd, 1) := dk_96 (dk_at dksX9_takes_0 16 rfl rfl)
theorem dX9_takes_17 : decode cX9_takes 17 = .ok (.putfield 37, 3) := dk_181 0 37 (dk_at dksX9_takes_0 17 rfl rfl)
theorem dX9_takes_20 : decode cX9_takes 20 = .ok (.aload_n 0, 1) := dk_42 (dk_at dksX9_takes_0 20 rfl rfl)
theorem dX9_takes_21 : decode cX9_takes 21 = .ok (.getfield 18, 3) := dk_180 0 18 (dk_at dksX9_takes_0 21 rfl rfl)
theorem dX9_takes_24 : decode cX9_takes 24 = .ok (.iload_n 2, 1) := dk_28 (dk_at dksX9_takes_1 0 rfl rfl)
theorem dX9_takes_25 : decode cX9_takes 25 = .ok (.dup2, 1) := dk_92 (dk_at dksX9_takes_1 1 rfl rfl)
theorem dX9_takes_26 : decode cX9_takes 26 = .ok (.iaload, 1) := dk_46 (dk_at dksX9_takes_1 2 rfl rfl)
theorem dX9_takes_27 : decode cX9_takes 27 = .ok (.iconst 1, 1) := dk_4 (dk_at dksX9_takes_1 3 rfl rfl)
theorem dX9_takes_28 : decode cX9_takes 28 = .ok (.iadd, 1) := dk_96 (dk_at dksX9_takes_1 4 rfl rfl)
theorem dX9_takes_29 : decode cX9_takes 29 = .ok (.iastore, 1) := dk_79 (dk_at dksX9_takes_1 5 rfl rfl)
theorem dX9_takes_30 : decode cX9_takes 30 = .ok (.iload_n 1, 1) := dk_27 (dk_at dksX9_takes_1 6 rfl rfl)
theorem dX9_takes_31 : decode cX9_takes 31 = .ok (.ifCond .eq 13, 3) := dk_153 0 13 (dk_at dksX9_takes_1 7 rfl rfl)
theorem dX9_takes_34 : decode cX9_takes 34 = .ok (.aload_n 0, 1) := dk_42 (dk_at dksX9_takes_1 10 rfl rfl)
theorem dX9_takes_35 : decode cX9_takes 35 = .ok (.getfield 21, 3) := dk_180 0 21 (dk_at dksX9_takes_1 11 rfl rfl)
theorem dX9_takes_38 : decode cX9_takes 38 = .ok (.iload_n 2, 1) := dk_28 (dk_at dksX9_takes_1 14 rfl rfl)
theorem dX9_takes_39 : decode cX9_takes 39 = .ok (.dup2, 1) := dk_92 (dk_at dksX9_takes_1 15 rfl rfl)
theorem dX9_takes_40 : decode cX9_takes 40 = .ok (.iaload, 1) := dk_46 (dk_at dksX9_takes_1 16 rfl rfl)
theorem dX9_takes_41 : decode cX9_takes 41 = .ok (.iconst 1, 1) := dk_4 (dk_at dksX9_takes_1 17 rfl rfl)
theorem dX9_takes_42 : decode cX9_takes 42 = .ok (.iadd, 1) := dk_96 (dk_at dksX9_takes_1 18 rfl rfl)
theorem dX9_takes_43 : decode cX9_takes 43 = .ok (.iastore, 1) := dk_79 (dk_at dksX9_takes_1 19 rfl rfl)
theorem dX9_takes_44 : decode cX9_takes 44 = .ok (.iload_n 3, 1) := dk_29 (dk_at dksX9_takes_1 20 rfl rfl)
theorem dX9_takes_45 : decode cX9_takes 45 = .ok (.ifCond .eq 40, 3) := dk_153 0 40 (dk_at dksX9_takes_1 21 rfl rfl)
theorem dX9_takes_48 : decode cX9_takes 48 = .ok (.aload_n 0, 1) := dk_42 (dk_at dksX9_takes_2 0 rfl rfl)
theorem dX9_takes_49 : decode cX9_takes 49 = .ok (.getfield 9, 3) := dk_180 0 9 (dk_at dksX9_takes_2 1 rfl rfl)
theorem dX9_takes_52 : decode cX9_takes 52 = .ok (.iload_n 2, 1) := dk_28 (dk_at dksX9_takes_2 4 rfl rfl)
theorem dX9_takes_53 : decode cX9_takes 53 = .ok (.dup2, 1) := dk_92 (dk_at dksX9_takes_2 5 rfl rfl)
theorem dX9_takes_54 : decode cX9_takes 54 = .ok (.iaload, 1) := dk_46 (dk_at dksX9_takes_2 6 rfl rfl)
theorem dX9_takes_55 : decode cX9_takes 55 = .ok (.iconst 1, 1) := dk_4 (dk_at dksX9_takes_2 7 rfl rfl)
theorem dX9_takes_56 : decode cX9_takes 56 = .ok (.iadd, 1) := dk_96 (dk_at dksX9_takes_2 8 rfl rfl)
theorem dX9_takes_57 : decode cX9_takes 57 = .ok (.iastore, 1) := dk_79 (dk_at dksX9_takes_2 9 rfl rfl)
theorem dX9_takes_58 : decode cX9_takes 58 = .ok (.aload_n 0, 1) := dk_42 (dk_at dksX9_takes_2 10 rfl rfl)
theorem dX9_takes_59 : decode cX9_takes 59 = .ok (.getfield 15, 3) := dk_180 0 15 (dk_at dksX9_takes_2 11 rfl rfl)
theorem dX9_takes_62 : decode cX9_takes 62 = .ok (.iload_n 2, 1) := dk_28 (dk_at dksX9_takes_2 14 rfl rfl)
theorem dX9_takes_63 : decode cX9_takes 63 = .ok (.aload_n 0, 1) := dk_42 (dk_at dksX9_takes_2 15 rfl rfl)
theorem dX9_takes_64 : decode cX9_takes 64 = .ok (.getfield 15, 3) := dk_180 0 15 (dk_at dksX9_takes_2 16 rfl rfl)
theorem dX9_takes_67 : decode cX9_takes 67 = .ok (.iload_n 2, 1) := dk_28 (dk_at dksX9_takes_2 19 rfl rfl)
theorem dX9_takes_68 : decode cX9_takes 68 = .ok (.iaload, 1) := dk_46 (dk_at dksX9_takes_2 20 rfl rfl)
theorem dX9_takes_69 : decode cX9_takes 69 = .ok (.iconst 1, 1) := dk_4 (dk_at dksX9_takes_2 21 rfl rfl)
theorem dX9_takes_70 : decode cX9_takes 70 = .ok (.ishl, 1) := dk_120 (dk_at dksX9_takes_2 22 rfl rfl)
theorem dX9_takes_71 : decode cX9_takes 71 = .ok (.iload_n 1, 1) := dk_27 (dk_at dksX9_takes_2 23 rfl rfl)
theorem dX9_takes_72 : decode cX9_takes 72 = .ok (.ifCond .eq 7, 3) := dk_153 0 7 (dk_at dksX9_takes_3 0 rfl rfl)
theorem dX9_takes_75 : decode cX9_takes 75 = .ok (.iconst 1, 1) := dk_4 (dk_at dksX9_takes_3 3 rfl rfl)
theorem dX9_takes_76 : decode cX9_takes 76 = .ok (.goto 4, 3) := dk_167 0 4 (dk_at dksX9_takes_3 4 rfl rfl)
theorem dX9_takes_79 : decode cX9_takes 79 = .ok (.iconst 0, 1) := dk_3 (dk_at dksX9_takes_3 7 rfl rfl)
theorem dX9_takes_80 : decode cX9_takes 80 = .ok (.ior, 1) := dk_128 (dk_at dksX9_takes_3 8 rfl rfl)
theorem dX9_takes_81 : decode cX9_takes 81 = .ok (.bipush 7, 2) := dk_16 7 (dk_at dksX9_takes_3 9 rfl rfl)
theorem dX9_takes_83 : decode cX9_takes 83 = .ok (.iand, 1) := dk_126 (dk_at dksX9_takes_3 11 rfl rfl)
theorem dX9_takes_84 : decode cX9_takes 84 = .ok (.iastore, 1) := dk_79 (dk_at dksX9_takes_3 12 rfl rfl)
theorem dX9_takes_85 : decode cX9_takes 85 = .ok (.aload_n 0, 1) := dk_42 (dk_at dksX9_takes_3 13 rfl rfl)
theorem dX9_takes_86 : decode cX9_takes 86 = .ok (.iload_n 2, 1) := dk_28 (dk_at dksX9_takes_3 14 rfl rfl)
theorem dX9_takes_87 : decode cX9_takes 87 = .ok (.putfield 24, 3) := dk_181 0 24 (dk_at dksX9_takes_3 15 rfl rfl)
theorem dX9_takes_90 : decode cX9_takes 90 = .ok (.aload_n 0, 1) := dk_42 (dk_at dksX9_takes_3 18 rfl rfl)
theorem dX9_takes_91 : decode cX9_takes 91 = .ok (.iload_n 1, 1) := dk_27 (dk_at dksX9_takes_3 19 rfl rfl)
theorem dX9_takes_92 : decode cX9_takes 92 = .ok (.ifCond .eq 13, 3) := dk_153 0 13 (dk_at dksX9_takes_3 20 rfl rfl)
theorem dX9_takes_95 : decode cX9_takes 95 = .ok (.iconst 0, 1) := dk_3 (dk_at dksX9_takes_3 23 rfl rfl)
theorem dX9_takes_96 : decode cX9_takes 96 = .ok (.iload_n 2, 1) := dk_28 (dk_at dksX9_takes_4 0 rfl rfl)
theorem dX9_takes_97 : decode cX9_takes 97 = .ok (.iconst 2, 1) := dk_5 (dk_at dksX9_takes_4 1 rfl rfl)
theorem dX9_takes_98 : decode cX9_takes 98 = .ok (.isub, 1) := dk_100 (dk_at dksX9_takes_4 2 rfl rfl)
theorem dX9_takes_99 : decode cX9_takes 99 = .ok (.invokestatic 50, 3) := dk_184 0 50 (dk_at dksX9_takes_4 3 rfl rfl)
theorem dX9_takes_102 : decode cX9_takes 102 = .ok (.goto 11, 3) := dk_167 0 11 (dk_at dksX9_takes_4 6 rfl rfl)
theorem dX9_takes_105 : decode cX9_takes 105 = .ok (.bipush 24, 2) := dk_16 24 (dk_at dksX9_takes_4 9 rfl rfl)
theorem dX9_takes_107 : decode cX9_takes 107 = .ok (.iload_n 2, 1) := dk_28 (dk_at dksX9_takes_4 11 rfl rfl)
theorem dX9_takes_108 : decode cX9_takes 108 = .ok (.iconst 1, 1) := dk_4 (dk_at dksX9_takes_4 12 rfl rfl)
theorem dX9_takes_109 : decode cX9_takes 109 = .ok (.iadd, 1) := dk_96 (dk_at dksX9_takes_4 13 rfl rfl)
theorem dX9_takes_110 : decode cX9_takes 110 = .ok (.invokestatic 56, 3) := dk_184 0 56 (dk_at dksX9_takes_4 14 rfl rfl)
theorem dX9_takes_113 : decode cX9_takes 113 = .ok (.putfield 28, 3) := dk_181 0 28 (dk_at dksX9_takes_4 17 rfl rfl)
theorem dX9_takes_116 : decode cX9_takes 116 = .ok (.iload_n 3, 1) := dk_29 (dk_at dksX9_takes_4 20 rfl rfl)
theorem dX9_takes_117 : decode cX9_takes 117 = .ok (.ifCond .eq 12, 3) := dk_153 0 12 (dk_at dksX9_takes_4 21 rfl rfl)
theorem dX9_takes_120 : decode cX9_takes 120 = .ok (.aload_n 0, 1) := dk_42 (dk_at dksX9_takes_5 0 rfl rfl)
theorem dX9_takes_121 : decode cX9_takes 121 = .ok (.iload_n 2, 1) := dk_28 (dk_at dksX9_takes_5 1 rfl rfl)
theorem dX9_takes_122 : decode cX9_takes 122 = .ok (.invokevirtual 59, 3) := dk_182 0 59 (dk_at dksX9_takes_5 2 rfl rfl)
theorem dX9_takes_125 : decode cX9_takes 125 = .ok (.iconst 1, 1) := dk_4 (dk_at dksX9_takes_5 5 rfl rfl)
theorem dX9_takes_126 : decode cX9_takes 126 = .ok (.if_icmp .gt 17, 3) := dk_163 0 17 (dk_at dksX9_takes_5 6 rfl rfl)
theorem dX9_takes_129 : decode cX9_takes 129 = .ok (.iload_n 2, 1) := dk_28 (dk_at dksX9_takes_5 9 rfl rfl)
theorem dX9_takes_130 : decode cX9_takes 130 = .ok (.ifCond .ne 15, 3) := dk_154 0 15 (dk_at dksX9_takes_5 10 rfl rfl)
theorem dX9_takes_133 : decode cX9_takes 133 = .ok (.aload_n 0, 1) := dk_42 (dk_at dksX9_takes_5 13 rfl rfl)
theorem dX9_takes_134 : decode cX9_takes 134 = .ok (.getfield 21, 3) := dk_180 0 21 (dk_at dksX9_takes_5 14 rfl rfl)
theorem dX9_takes_137 : decode cX9_takes 137 = .ok (.iconst 0, 1) := dk_3 (dk_at dksX9_takes_5 17 rfl rfl)
theorem dX9_takes_138 : decode cX9_takes 138 = .ok (.iaload, 1) := dk_46 (dk_at dksX9_takes_5 18 rfl rfl)
theorem dX9_takes_139 : decode cX9_takes 139 = .ok (.iconst 2, 1) := dk_5 (dk_at dksX9_takes_5 19 rfl rfl)
theorem dX9_takes_140 : decode cX9_takes 140 = .ok (.if_icmp .ne 5, 3) := dk_160 0 5 (dk_at dksX9_takes_5 20 rfl rfl)
theorem dX9_takes_143 : decode cX9_takes 143 = .ok (.iload_n 2, 1) := dk_28 (dk_at dksX9_takes_5 23 rfl rfl)
theorem dX9_takes_144 : decode cX9_takes 144 = .ok (.ireturn, 1) := dk_172 (dk_at dksX9_takes_6 0 rfl rfl)
theorem dX9_takes_145 : decode cX9_takes 145 = .ok (.aload_n 0, 1) := dk_42 (dk_at dksX9_takes_6 1 rfl rfl)
theorem dX9_takes_146 : decode cX9_takes 146 = .ok (.getfield 18, 3) := dk_180 0 18 (dk_at dksX9_takes_6 2 rfl rfl)
theorem dX9_takes_149 : decode cX9_takes 149 = .ok (.bipush 24, 2) := dk_16 24 (dk_at dksX9_takes_6 5 rfl rfl)
theorem dX9_takes_151 : decode cX9_takes 151 = .ok (.iaload, 1) := dk_46 (dk_at dksX9_takes_6 7 rfl rfl)
theorem dX9_takes_152 : decode cX9_takes 152 = .ok (.aload_n 0, 1) := dk_42 (dk_at dksX9_takes_6 8 rfl rfl)
theorem dX9_takes_153 : decode cX9_takes 153 = .ok (.getfield 21, 3) := dk_180 0 21 (dk_at dksX9_takes_6 9 rfl rfl)
theorem dX9_takes_156 : decode cX9_takes 156 = .ok (.bipush 24, 2) := dk_16 24 (dk_at dksX9_takes_6 12 rfl rfl)
theorem dX9_takes_158 : decode cX9_takes 158 = .ok (.iaload, 1) := dk_46 (dk_at dksX9_takes_6 14 rfl rfl)
theorem dX9_takes_159 : decode cX9_takes 159 = .ok (.isub, 1) := dk_100 (dk_at dksX9_takes_6 15 rfl rfl)
theorem dX9_takes_160 : decode cX9_takes 160 = .ok (.iconst 2, 1) := dk_5 (dk_at dksX9_takes_6 16 rfl rfl)
theorem dX9_takes_161 : decode cX9_takes 161 = .ok (.if_icmp .ne 6, 3) := dk_160 0 6 (dk_at dksX9_takes_6 17 rfl rfl)
theorem dX9_takes_164 : decode cX9_takes 164 = .ok (.bipush 25, 2) := dk_16 25 (dk_at dksX9_takes_6 20 rfl rfl)
theorem dX9_takes_166 : decode cX9_takes 166 = .ok (.ireturn, 1) := dk_172 (dk_at dksX9_takes_6 22 rfl rfl)
theorem dX9_takes_167 : decode cX9_takes 167 = .ok (.aload_n 0, 1) := dk_42 (dk_at dksX9_takes_6 23 rfl rfl)
theorem dX9_takes_168 : decode cX9_takes 168 = .ok (.getfield 37, 3) := dk_180 0 37 (dk_at dksX9_takes_7 0 rfl rfl)
theorem dX9_takes_171 : decode cX9_takes 171 = .ok (.bipush 30, 2) := dk_16 30 (dk_at dksX9_takes_7 3 rfl rfl)
theorem dX9_takes_173 : decode cX9_takes 173 = .ok (.if_icmp .ne 11, 3) := dk_160 0 11 (dk_at dksX9_takes_7 5 rfl rfl)
theorem dX9_takes_176 : decode cX9_takes 176 = .ok (.new 62, 3) := dk_187 0 62 (dk_at dksX9_takes_7 8 rfl rfl)
theorem dX9_takes_179 : decode cX9_takes 179 = .ok (.dup, 1) := dk_89 (dk_at dksX9_takes_7 11 rfl rfl)
theorem dX9_takes_180 : decode cX9_takes 180 = .ok (.invokespecial 64, 3) := dk_183 0 64 (dk_at dksX9_takes_7 12 rfl rfl)
theorem dX9_takes_183 : decode cX9_takes 183 = .ok (.athrow, 1) := dk_191 (dk_at dksX9_takes_7 15 rfl rfl)
theorem dX9_takes_184 : decode cX9_takes 184 = .ok (.iconst (-1), 1) := dk_2 (dk_at dksX9_takes_7 16 rfl rfl)
theorem dX9_takes_185 : decode cX9_takes 185 = .ok (.ireturn, 1) := dk_172 (dk_at dksX9_takes_7 17 rfl rfl)
abbrev cX9_isAscent : ByteArray := prog_7_method_3_code
def yX9_isAscent : MethodName := ⟨RX9, "isAscent", "()Z"⟩
def dkwX9_isAscent_0 : List UInt8 := [42, 180, 0, 24, 155, 0, 18, 42, 180, 0, 28, 42, 180, 0, 24, 164, 0, 7, 4, 167, 0, 4, 3, 172]
abbrev dktX9_isAscent_0 : List UInt8 := dkwX9_isAscent_0 ++ []
theorem dksX9_isAscent_0 : cX9_isAscent.data.toList.drop 0 = dktX9_isAscent_0 := by decide +kernel
theorem dX9_isAscent_0 : decode cX9_isAscent 0 = .ok (.aload_n 0, 1) := dk_42 (dk_at dksX9_isAscent_0 0 rfl rfl)
theorem dX9_isAscent_1 : decode cX9_isAscent 1 = .ok (.getfield 24, 3) := dk_180 0 24 (dk_at dksX9_isAscent_0 1 rfl rfl)
theorem dX9_isAscent_4 : decode cX9_isAscent 4 = .ok (.ifCond .lt 18, 3) := dk_155 0 18 (dk_at dksX9_isAscent_0 4 rfl rfl)
theorem dX9_isAscent_7 : decode cX9_isAscent 7 = .ok (.aload_n 0, 1) := dk_42 (dk_at dksX9_isAscent_0 7 rfl rfl)
theorem dX9_isAscent_8 : decode cX9_isAscent 8 = .ok (.getfield 28, 3) := dk_180 0 28 (dk_at dksX9_isAscent_0 8 rfl rfl)
theorem dX9_isAscent_11 : decode cX9_isAscent 11 = .ok (.aload_n 0, 1) := dk_42 (dk_at dksX9_isAscent_0 11 rfl rfl)
theorem dX9_isAscent_12 : decode cX9_isAscent 12 = .ok (.getfield 24, 3) := dk_180 0 24 (dk_at dksX9_isAscent_0 12 rfl rfl)
theorem dX9_isAscent_15 : decode cX9_isAscent 15 = .ok (.if_icmp .le 7, 3) := dk_164 0 7 (dk_at dksX9_isAscent_0 15 rfl rfl)
theorem dX9_isAscent_18 : decode cX9_isAscent 18 = .ok (.iconst 1, 1) := dk_4 (dk_at dksX9_isAscent_0 18 rfl rfl)
theorem dX9_isAscent_19 : decode cX9_isAscent 19 = .ok (.goto 4, 3) := dk_167 0 4 (dk_at dksX9_isAscent_0 19 rfl rfl)
theorem dX9_isAscent_22 : decode cX9_isAscent 22 = .ok (.iconst 0, 1) := dk_3 (dk_at dksX9_isAscent_0 22 rfl rfl)
theorem dX9_isAscent_23 : decode cX9_isAscent 23 = .ok (.ireturn, 1) := dk_172 (dk_at dksX9_isAscent_0 23 rfl rfl)
abbrev cX9_latestHeard : ByteArray := prog_7_method_4_code
def yX9_latestHeard : MethodName := ⟨RX9, "latestHeard", "(I)I"⟩
def dkwX9_latestHeard_0 : List UInt8 := [42, 180, 0, 15, 27, 46, 184, 0, 40, 172]
abbrev dktX9_latestHeard_0 : List UInt8 := dkwX9_latestHeard_0 ++ []
theorem dksX9_latestHeard_0 : cX9_latestHeard.data.toList.drop 0 = dktX9_latestHeard_0 := by decide +kernel
theorem dX9_latestHeard_0 : decode cX9_latestHeard 0 = .ok (.aload_n 0, 1) := dk_42 (dk_at dksX9_latestHeard_0 0 rfl rfl)
theorem dX9_latestHeard_1 : decode cX9_latestHeard 1 = .ok (.getfield 15, 3) := dk_180 0 15 (dk_at dksX9_latestHeard_0 1 rfl rfl)
theorem dX9_latestHeard_4 : decode cX9_latestHeard 4 = .ok (.iload_n 1, 1) := dk_27 (dk_at dksX9_latestHeard_0 4 rfl rfl)
theorem dX9_latestHeard_5 : decode cX9_latestHeard 5 = .ok (.iaload, 1) := dk_46 (dk_at dksX9_latestHeard_0 5 rfl rfl)
theorem dX9_latestHeard_6 : decode cX9_latestHeard 6 = .ok (.invokestatic 40, 3) := dk_184 0 40 (dk_at dksX9_latestHeard_0 6 rfl rfl)
theorem dX9_latestHeard_9 : decode cX9_latestHeard 9 = .ok (.ireturn, 1) := dk_172 (dk_at dksX9_latestHeard_0 9 rfl rfl)
abbrev cX9_odd : ByteArray := prog_7_method_5_code
def yX9_odd : MethodName := ⟨RX9, "odd", "(I)I"⟩
def dkwX9_odd_2 : List UInt8 := [28, 172]
abbrev dktX9_odd_2 : List UInt8 := dkwX9_odd_2 ++ []
def dkwX9_odd_1 : List UInt8 := [167, 0, 16, 42, 180, 0, 18, 29, 46, 42, 180, 0, 21, 29, 46, 100, 96, 61, 132, 3, 1, 167, 255, 217]
abbrev dktX9_odd_1 : List UInt8 := dkwX9_odd_1 ++ dktX9_odd_2
def dkwX9_odd_0 : List UInt8 := [3, 61, 3, 62, 29, 16, 24, 163, 0, 39, 28, 29, 27, 162, 0, 12, 42, 180, 0, 21, 29, 46]
abbrev dktX9_odd_0 : List UInt8 := dkwX9_odd_0 ++ dktX9_odd_1
theorem dksX9_odd_0 : cX9_odd.data.toList.drop 0 = dktX9_odd_0 := by decide +kernel
theorem dksX9_odd_1 : cX9_odd.data.toList.drop 22 = dktX9_odd_1 := dk_seg dksX9_odd_0 22 rfl rfl
theorem dksX9_odd_2 : cX9_odd.data.toList.drop 46 = dktX9_odd_2 := dk_seg dksX9_odd_1 24 rfl rfl
theorem dX9_odd_0 : decode cX9_odd 0 = .ok (.iconst 0, 1) := dk_3 (dk_at dksX9_odd_0 0 rfl rfl)
theorem dX9_odd_1 : decode cX9_odd 1 = .ok (.istore_n 2, 1) := dk_61 (dk_at dksX9_odd_0 1 rfl rfl)
theorem dX9_odd_2 : decode cX9_odd 2 = .ok (.iconst 0, 1) := dk_3 (dk_at dksX9_odd_0 2 rfl rfl)
theorem dX9_odd_3 : decode cX9_odd 3 = .ok (.istore_n 3, 1) := dk_62 (dk_at dksX9_odd_0 3 rfl rfl)
theorem dX9_odd_4 : decode cX9_odd 4 = .ok (.iload_n 3, 1) := dk_29 (dk_at dksX9_odd_0 4 rfl rfl)
theorem dX9_odd_5 : decode cX9_odd 5 = .ok (.bipush 24, 2) := dk_16 24 (dk_at dksX9_odd_0 5 rfl rfl)
theorem dX9_odd_7 : decode cX9_odd 7 = .ok (.if_icmp .gt 39, 3) := dk_163 0 39 (dk_at dksX9_odd_0 7 rfl rfl)
theorem dX9_odd_10 : decode cX9_odd 10 = .ok (.iload_n 2, 1) := dk_28 (dk_at dksX9_odd_0 10 rfl rfl)
theorem dX9_odd_11 : decode cX9_odd 11 = .ok (.iload_n 3, 1) := dk_29 (dk_at dksX9_odd_0 11 rfl rfl)
theorem dX9_odd_12 : decode cX9_odd 12 = .ok (.iload_n 1, 1) := dk_27 (dk_at dksX9_odd_0 12 rfl rfl)
theorem dX9_odd_13 : decode cX9_odd 13 = .ok (.if_icmp .ge 12, 3) := dk_162 0 12 (dk_at dksX9_odd_0 13 rfl rfl)
theorem dX9_odd_16 : decode cX9_odd 16 = .ok (.aload_n 0, 1) := dk_42 (dk_at dksX9_odd_0 16 rfl rfl)
theorem dX9_odd_17 : decode cX9_odd 17 = .ok (.getfield 21, 3) := dk_180 0 21 (dk_at dksX9_odd_0 17 rfl rfl)
theorem dX9_odd_20 : decode cX9_odd 20 = .ok (.iload_n 3, 1) := dk_29 (dk_at dksX9_odd_0 20 rfl rfl)
theorem dX9_odd_21 : decode cX9_odd 21 = .ok (.iaload, 1) := dk_46 (dk_at dksX9_odd_0 21 rfl rfl)
theorem dX9_odd_22 : decode cX9_odd 22 = .ok (.goto 16, 3) := dk_167 0 16 (dk_at dksX9_odd_1 0 rfl rfl)
theorem dX9_odd_25 : decode cX9_odd 25 = .ok (.aload_n 0, 1) := dk_42 (dk_at dksX9_odd_1 3 rfl rfl)
theorem dX9_odd_26 : decode cX9_odd 26 = .ok (.getfield 18, 3) := dk_180 0 18 (dk_at dksX9_odd_1 4 rfl rfl)
theorem dX9_odd_29 : decode cX9_odd 29 = .ok (.iload_n 3, 1) := dk_29 (dk_at dksX9_odd_1 7 rfl rfl)
theorem dX9_odd_30 : decode cX9_odd 30 = .ok (.iaload, 1) := dk_46 (dk_at dksX9_odd_1 8 rfl rfl)
theorem dX9_odd_31 : decode cX9_odd 31 = .ok (.aload_n 0, 1) := dk_42 (dk_at dksX9_odd_1 9 rfl rfl)
theorem dX9_odd_32 : decode cX9_odd 32 = .ok (.getfield 21, 3) := dk_180 0 21 (dk_at dksX9_odd_1 10 rfl rfl)
theorem dX9_odd_35 : decode cX9_odd 35 = .ok (.iload_n 3, 1) := dk_29 (dk_at dksX9_odd_1 13 rfl rfl)
theorem dX9_odd_36 : decode cX9_odd 36 = .ok (.iaload, 1) := dk_46 (dk_at dksX9_odd_1 14 rfl rfl)
theorem dX9_odd_37 : decode cX9_odd 37 = .ok (.isub, 1) := dk_100 (dk_at dksX9_odd_1 15 rfl rfl)
theorem dX9_odd_38 : decode cX9_odd 38 = .ok (.iadd, 1) := dk_96 (dk_at dksX9_odd_1 16 rfl rfl)
theorem dX9_odd_39 : decode cX9_odd 39 = .ok (.istore_n 2, 1) := dk_61 (dk_at dksX9_odd_1 17 rfl rfl)
theorem dX9_odd_40 : decode cX9_odd 40 = .ok (.iinc 3 1, 3) := dk_132 3 1 (dk_at dksX9_odd_1 18 rfl rfl)
theorem dX9_odd_43 : decode cX9_odd 43 = .ok (.goto (-39), 3) := dk_167 255 217 (dk_at dksX9_odd_1 21 rfl rfl)
theorem dX9_odd_46 : decode cX9_odd 46 = .ok (.iload_n 2, 1) := dk_28 (dk_at dksX9_odd_2 0 rfl rfl)
theorem dX9_odd_47 : decode cX9_odd 47 = .ok (.ireturn, 1) := dk_172 (dk_at dksX9_odd_2 1 rfl rfl)
abbrev cX9_init_2 : ByteArray := prog_7_method_2_code
def yX9_init_2 : MethodName := ⟨RX9, "<init>", "(LMaskedEars$Search;)V"⟩
def dkwX9_init_2_5 : List UInt8 := [180, 0, 37, 181, 0, 37, 177]
abbrev dktX9_init_2_5 : List UInt8 := dkwX9_init_2_5 ++ []
def dkwX9_init_2_4 : List UInt8 := [3, 16, 25, 184, 0, 31, 42, 43, 180, 0, 28, 181, 0, 28, 42, 43, 180, 0, 24, 181, 0, 24, 42, 43]
abbrev dktX9_init_2_4 : List UInt8 := dkwX9_init_2_4 ++ dktX9_init_2_5
def dkwX9_init_2_3 : List UInt8 := [43, 180, 0, 18, 3, 42, 180, 0, 18, 3, 16, 25, 184, 0, 31, 43, 180, 0, 21, 3, 42, 180, 0, 21]
abbrev dktX9_init_2_3 : List UInt8 := dkwX9_init_2_3 ++ dktX9_init_2_4
def dkwX9_init_2_2 : List UInt8 := [180, 0, 9, 3, 16, 25, 184, 0, 31, 43, 180, 0, 15, 3, 42, 180, 0, 15, 3, 16, 25, 184, 0, 31]
abbrev dktX9_init_2_2 : List UInt8 := dkwX9_init_2_2 ++ dktX9_init_2_3
def dkwX9_init_2_1 : List UInt8 := [188, 10, 181, 0, 18, 42, 16, 25, 188, 10, 181, 0, 21, 42, 2, 181, 0, 24, 43, 180, 0, 9, 3, 42]
abbrev dktX9_init_2_1 : List UInt8 := dkwX9_init_2_1 ++ dktX9_init_2_2
def dkwX9_init_2_0 : List UInt8 := [42, 183, 0, 3, 42, 16, 25, 188, 10, 181, 0, 9, 42, 16, 25, 188, 10, 181, 0, 15, 42, 16, 25]
abbrev dktX9_init_2_0 : List UInt8 := dkwX9_init_2_0 ++ dktX9_init_2_1
theorem dksX9_init_2_0 : cX9_init_2.data.toList.drop 0 = dktX9_init_2_0 := by decide +kernel
theorem dksX9_init_2_1 : cX9_init_2.data.toList.drop 23 = dktX9_init_2_1 := dk_seg dksX9_init_2_0 23 rfl rfl
theorem dksX9_init_2_2 : cX9_init_2.data.toList.drop 47 = dktX9_init_2_2 := dk_seg dksX9_init_2_1 24 rfl rfl
theorem dksX9_init_2_3 : cX9_init_2.data.toList.drop 71 = dktX9_init_2_3 := dk_seg dksX9_init_2_2 24 rfl rfl
theorem dksX9_init_2_4 : cX9_init_2.data.toList.drop 95 = dktX9_init_2_4 := dk_seg dksX9_init_2_3 24 rfl rfl
theorem dksX9_init_2_5 : cX9_init_2.data.toList.drop 119 = dktX9_init_2_5 := dk_seg dksX9_init_2_4 24 rfl rfl
theorem dX9_init_2_0 : decode cX9_init_2 0 = .ok (.aload_n 0, 1) := dk_42 (dk_at dksX9_init_2_0 0 rfl rfl)
theorem dX9_init_2_1 : decode cX9_init_2 1 = .ok (.invokespecial 3, 3) := dk_183 0 3 (dk_at dksX9_init_2_0 1 rfl rfl)
theorem dX9_init_2_4 : decode cX9_init_2 4 = .ok (.aload_n 0, 1) := dk_42 (dk_at dksX9_init_2_0 4 rfl rfl)
theorem dX9_init_2_5 : decode cX9_init_2 5 = .ok (.bipush 25, 2) := dk_16 25 (dk_at dksX9_init_2_0 5 rfl rfl)
theorem dX9_init_2_7 : decode cX9_init_2 7 = .ok (.newarray .int, 2) := dk_188_10 (dk_at dksX9_init_2_0 7 rfl rfl)
theorem dX9_init_2_9 : decode cX9_init_2 9 = .ok (.putfield 9, 3) := dk_181 0 9 (dk_at dksX9_init_2_0 9 rfl rfl)
theorem dX9_init_2_12 : decode cX9_init_2 12 = .ok (.aload_n 0, 1) := dk_42 (dk_at dksX9_init_2_0 12 rfl rfl)
theorem dX9_init_2_13 : decode cX9_init_2 13 = .ok (.bipush 25, 2) := dk_16 25 (dk_at dksX9_init_2_0 13 rfl rfl)
theorem dX9_init_2_15 : decode cX9_init_2 15 = .ok (.newarray .int, 2) := dk_188_10 (dk_at dksX9_init_2_0 15 rfl rfl)
theorem dX9_init_2_17 : decode cX9_init_2 17 = .ok (.putfield 15, 3) := dk_181 0 15 (dk_at dksX9_init_2_0 17 rfl rfl)
theorem dX9_init_2_20 : decode cX9_init_2 20 = .ok (.aload_n 0, 1) := dk_42 (dk_at dksX9_init_2_0 20 rfl rfl)
theorem dX9_init_2_21 : decode cX9_init_2 21 = .ok (.bipush 25, 2) := dk_16 25 (dk_at dksX9_init_2_0 21 rfl rfl)
theorem dX9_init_2_23 : decode cX9_init_2 23 = .ok (.newarray .int, 2) := dk_188_10 (dk_at dksX9_init_2_1 0 rfl rfl)
theorem dX9_init_2_25 : decode cX9_init_2 25 = .ok (.putfield 18, 3) := dk_181 0 18 (dk_at dksX9_init_2_1 2 rfl rfl)
theorem dX9_init_2_28 : decode cX9_init_2 28 = .ok (.aload_n 0, 1) := dk_42 (dk_at dksX9_init_2_1 5 rfl rfl)
theorem dX9_init_2_29 : decode cX9_init_2 29 = .ok (.bipush 25, 2) := dk_16 25 (dk_at dksX9_init_2_1 6 rfl rfl)
theorem dX9_init_2_31 : decode cX9_init_2 31 = .ok (.newarray .int, 2) := dk_188_10 (dk_at dksX9_init_2_1 8 rfl rfl)
theorem dX9_init_2_33 : decode cX9_init_2 33 = .ok (.putfield 21, 3) := dk_181 0 21 (dk_at dksX9_init_2_1 10 rfl rfl)
theorem dX9_init_2_36 : decode cX9_init_2 36 = .ok (.aload_n 0, 1) := dk_42 (dk_at dksX9_init_2_1 13 rfl rfl)
theorem dX9_init_2_37 : decode cX9_init_2 37 = .ok (.iconst (-1), 1) := dk_2 (dk_at dksX9_init_2_1 14 rfl rfl)
theorem dX9_init_2_38 : decode cX9_init_2 38 = .ok (.putfield 24, 3) := dk_181 0 24 (dk_at dksX9_init_2_1 15 rfl rfl)
theorem dX9_init_2_41 : decode cX9_init_2 41 = .ok (.aload_n 1, 1) := dk_43 (dk_at dksX9_init_2_1 18 rfl rfl)
theorem dX9_init_2_42 : decode cX9_init_2 42 = .ok (.getfield 9, 3) := dk_180 0 9 (dk_at dksX9_init_2_1 19 rfl rfl)
theorem dX9_init_2_45 : decode cX9_init_2 45 = .ok (.iconst 0, 1) := dk_3 (dk_at dksX9_init_2_1 22 rfl rfl)
theorem dX9_init_2_46 : decode cX9_init_2 46 = .ok (.aload_n 0, 1) := dk_42 (dk_at dksX9_init_2_1 23 rfl rfl)
theorem dX9_init_2_47 : decode cX9_init_2 47 = .ok (.getfield 9, 3) := dk_180 0 9 (dk_at dksX9_init_2_2 0 rfl rfl)
theorem dX9_init_2_50 : decode cX9_init_2 50 = .ok (.iconst 0, 1) := dk_3 (dk_at dksX9_init_2_2 3 rfl rfl)
theorem dX9_init_2_51 : decode cX9_init_2 51 = .ok (.bipush 25, 2) := dk_16 25 (dk_at dksX9_init_2_2 4 rfl rfl)
theorem dX9_init_2_53 : decode cX9_init_2 53 = .ok (.invokestatic 31, 3) := dk_184 0 31 (dk_at dksX9_init_2_2 6 rfl rfl)
theorem dX9_init_2_56 : decode cX9_init_2 56 = .ok (.aload_n 1, 1) := dk_43 (dk_at dksX9_init_2_2 9 rfl rfl)
theorem dX9_init_2_57 : decode cX9_init_2 57 = .ok (.getfield 15, 3) := dk_180 0 15 (dk_at dksX9_init_2_2 10 rfl rfl)
theorem dX9_init_2_60 : decode cX9_init_2 60 = .ok (.iconst 0, 1) := dk_3 (dk_at dksX9_init_2_2 13 rfl rfl)
theorem dX9_init_2_61 : decode cX9_init_2 61 = .ok (.aload_n 0, 1) := dk_42 (dk_at dksX9_init_2_2 14 rfl rfl)
theorem dX9_init_2_62 : decode cX9_init_2 62 = .ok (.getfield 15, 3) := dk_180 0 15 (dk_at dksX9_init_2_2 15 rfl rfl)
theorem dX9_init_2_65 : decode cX9_init_2 65 = .ok (.iconst 0, 1) := dk_3 (dk_at dksX9_init_2_2 18 rfl rfl)
theorem dX9_init_2_66 : decode cX9_init_2 66 = .ok (.bipush 25, 2) := dk_16 25 (dk_at dksX9_init_2_2 19 rfl rfl)
theorem dX9_init_2_68 : decode cX9_init_2 68 = .ok (.invokestatic 31, 3) := dk_184 0 31 (dk_at dksX9_init_2_2 21 rfl rfl)
theorem dX9_init_2_71 : decode cX9_init_2 71 = .ok (.aload_n 1, 1) := dk_43 (dk_at dksX9_init_2_3 0 rfl rfl)
theorem dX9_init_2_72 : decode cX9_init_2 72 = .ok (.getfield 18, 3) := dk_180 0 18 (dk_at dksX9_init_2_3 1 rfl rfl)
theorem dX9_init_2_75 : decode cX9_init_2 75 = .ok (.iconst 0, 1) := dk_3 (dk_at dksX9_init_2_3 4 rfl rfl)
theorem dX9_init_2_76 : decode cX9_init_2 76 = .ok (.aload_n 0, 1) := dk_42 (dk_at dksX9_init_2_3 5 rfl rfl)
theorem dX9_init_2_77 : decode cX9_init_2 77 = .ok (.getfield 18, 3) := dk_180 0 18 (dk_at dksX9_init_2_3 6 rfl rfl)
theorem dX9_init_2_80 : decode cX9_init_2 80 = .ok (.iconst 0, 1) := dk_3 (dk_at dksX9_init_2_3 9 rfl rfl)
theorem dX9_init_2_81 : decode cX9_init_2 81 = .ok (.bipush 25, 2) := dk_16 25 (dk_at dksX9_init_2_3 10 rfl rfl)
theorem dX9_init_2_83 : decode cX9_init_2 83 = .ok (.invokestatic 31, 3) := dk_184 0 31 (dk_at dksX9_init_2_3 12 rfl rfl)
theorem dX9_init_2_86 : decode cX9_init_2 86 = .ok (.aload_n 1, 1) := dk_43 (dk_at dksX9_init_2_3 15 rfl rfl)
theorem dX9_init_2_87 : decode cX9_init_2 87 = .ok (.getfield 21, 3) := dk_180 0 21 (dk_at dksX9_init_2_3 16 rfl rfl)
theorem dX9_init_2_90 : decode cX9_init_2 90 = .ok (.iconst 0, 1) := dk_3 (dk_at dksX9_init_2_3 19 rfl rfl)
theorem dX9_init_2_91 : decode cX9_init_2 91 = .ok (.aload_n 0, 1) := dk_42 (dk_at dksX9_init_2_3 20 rfl rfl)
theorem dX9_init_2_92 : decode cX9_init_2 92 = .ok (.getfield 21, 3) := dk_180 0 21 (dk_at dksX9_init_2_3 21 rfl rfl)
theorem dX9_init_2_95 : decode cX9_init_2 95 = .ok (.iconst 0, 1) := dk_3 (dk_at dksX9_init_2_4 0 rfl rfl)
theorem dX9_init_2_96 : decode cX9_init_2 96 = .ok (.bipush 25, 2) := dk_16 25 (dk_at dksX9_init_2_4 1 rfl rfl)
theorem dX9_init_2_98 : decode cX9_init_2 98 = .ok (.invokestatic 31, 3) := dk_184 0 31 (dk_at dksX9_init_2_4 3 rfl rfl)
theorem dX9_init_2_101 : decode cX9_init_2 101 = .ok (.aload_n 0, 1) := dk_42 (dk_at dksX9_init_2_4 6 rfl rfl)
theorem dX9_init_2_102 : decode cX9_init_2 102 = .ok (.aload_n 1, 1) := dk_43 (dk_at dksX9_init_2_4 7 rfl rfl)
theorem dX9_init_2_103 : decode cX9_init_2 103 = .ok (.getfield 28, 3) := dk_180 0 28 (dk_at dksX9_init_2_4 8 rfl rfl)
theorem dX9_init_2_106 : decode cX9_init_2 106 = .ok (.putfield 28, 3) := dk_181 0 28 (dk_at dksX9_init_2_4 11 rfl rfl)
theorem dX9_init_2_109 : decode cX9_init_2 109 = .ok (.aload_n 0, 1) := dk_42 (dk_at dksX9_init_2_4 14 rfl rfl)
theorem dX9_init_2_110 : decode cX9_init_2 110 = .ok (.aload_n 1, 1) := dk_43 (dk_at dksX9_init_2_4 15 rfl rfl)
theorem dX9_init_2_111 : decode cX9_init_2 111 = .ok (.getfield 24, 3) := dk_180 0 24 (dk_at dksX9_init_2_4 16 rfl rfl)
theorem dX9_init_2_114 : decode cX9_init_2 114 = .ok (.putfield 24, 3) := dk_181 0 24 (dk_at dksX9_init_2_4 19 rfl rfl)
theorem dX9_init_2_117 : decode cX9_init_2 117 = .ok (.aload_n 0, 1) := dk_42 (dk_at dksX9_init_2_4 22 rfl rfl)
theorem dX9_init_2_118 : decode cX9_init_2 118 = .ok (.aload_n 1, 1) := dk_43 (dk_at dksX9_init_2_4 23 rfl rfl)
theorem dX9_init_2_119 : decode cX9_init_2 119 = .ok (.getfield 37, 3) := dk_180 0 37 (dk_at dksX9_init_2_5 0 rfl rfl)
theorem dX9_init_2_122 : decode cX9_init_2 122 = .ok (.putfield 37, 3) := dk_181 0 37 (dk_at dksX9_init_2_5 3 rfl rfl)
theorem dX9_init_2_125 : decode cX9_init_2 125 = .ok (.return_, 1) := dk_177 (dk_at dksX9_init_2_5 6 rfl rfl)
theorem q134 : (Jvm.Cond.initialized "MaskedEars$Search") ∈ lw_all := lw_g (lw_at lw_m1 29 rfl) rfl
theorem q612 : (Jvm.Cond.selects "MaskedEars$Search" ({ cls := "java/lang/Object", name := "getClass", desc := "()Ljava/lang/Class;" } : Jvm.MethodName) ({ cls := "java/lang/Object", name := "getClass", desc := "()Ljava/lang/Class;" } : Jvm.MethodName)) ∈ lw_all := lw_g (lw_at lw_m3 27 rfl) rfl
theorem q840 : (Jvm.Cond.instantiable "MaskedEars$Search" (7 : Nat)) ∈ lw_all := lw_g (lw_at lw_m4 15 rfl) rfl
theorem q842 : (Jvm.Cond.instanceMethod ({ cls := "MaskedEars$Search", name := "<init>", desc := "(I)V" } : Jvm.MethodName)) ∈ lw_all := lw_g (lw_at lw_m4 17 rfl) rfl
theorem q843 : (Jvm.Cond.code ({ cls := "MaskedEars$Search", name := "<init>", desc := "(I)V" } : Jvm.MethodName) prog_7_method_1_code (2 : Nat) (Option.none : Option Jvm.ClassFile.FieldType)) ∈ lw_all := lw_g (lw_at lw_m4 18 rfl) rfl
theorem q844 : (Jvm.Cond.methodLink "MaskedEars$Search" (3 : Nat) ({ cls := "java/lang/Object", name := "<init>", desc := "()V" } : Jvm.MethodName)) ∈ lw_all := lw_g (lw_at lw_m4 19 rfl) rfl
theorem q845 : (Jvm.Cond.fieldLink "MaskedEars$Search" (9 : Nat) "MaskedEars$Search" "ascents" "[I") ∈ lw_all := lw_g (lw_at lw_m4 20 rfl) rfl
theorem q847 : (Jvm.Cond.fieldLink "MaskedEars$Search" (15 : Nat) "MaskedEars$Search" "latest" "[I") ∈ lw_all := lw_g (lw_at lw_m4 22 rfl) rfl
theorem q848 : (Jvm.Cond.fieldLink "MaskedEars$Search" (18 : Nat) "MaskedEars$Search" "shown" "[I") ∈ lw_all := lw_g (lw_at lw_m4 23 rfl) rfl
theorem q850 : (Jvm.Cond.fieldLink "MaskedEars$Search" (21 : Nat) "MaskedEars$Search" "heard" "[I") ∈ lw_all := lw_g (lw_at lw_m4 25 rfl) rfl
theorem q852 : (Jvm.Cond.fieldLink "MaskedEars$Search" (28 : Nat) "MaskedEars$Search" "level" "I") ∈ lw_all := lw_g (lw_at lw_m4 27 rfl) rfl
theorem q855 : (Jvm.Cond.fieldLink "MaskedEars$Search" (24 : Nat) "MaskedEars$Search" "ahead" "I") ∈ lw_all := lw_g (lw_at lw_m4 30 rfl) rfl
theorem q856 : (Jvm.Cond.fieldLink "MaskedEars$Search" (37 : Nat) "MaskedEars$Search" "many" "I") ∈ lw_all := lw_g (lw_at lw_m4 31 rfl) rfl
theorem q858 : (Jvm.Cond.laysFinal "MaskedEars$Search" "MaskedEars$Search" "ascents" "[I") ∈ lw_all := lw_g (lw_at lw_m4 33 rfl) rfl
theorem q859 : (Jvm.Cond.soleField "MaskedEars$Search" "ascents") ∈ lw_all := lw_g (lw_at lw_m4 34 rfl) rfl
theorem q860 : (Jvm.Cond.laysFinal "MaskedEars$Search" "MaskedEars$Search" "latest" "[I") ∈ lw_all := lw_g (lw_at lw_m4 35 rfl) rfl
theorem q861 : (Jvm.Cond.soleField "MaskedEars$Search" "latest") ∈ lw_all := lw_g (lw_at lw_m4 36 rfl) rfl
theorem q862 : (Jvm.Cond.laysFinal "MaskedEars$Search" "MaskedEars$Search" "shown" "[I") ∈ lw_all := lw_g (lw_at lw_m4 37 rfl) rfl
theorem q863 : (Jvm.Cond.soleField "MaskedEars$Search" "shown") ∈ lw_all := lw_g (lw_at lw_m4 38 rfl) rfl
theorem q864 : (Jvm.Cond.laysFinal "MaskedEars$Search" "MaskedEars$Search" "heard" "[I") ∈ lw_all := lw_g (lw_at lw_m4 39 rfl) rfl
theorem q865 : (Jvm.Cond.soleField "MaskedEars$Search" "heard") ∈ lw_all := lw_g (lw_at lw_m4 40 rfl) rfl
theorem q866 : (Jvm.Cond.lays "MaskedEars$Search" "MaskedEars$Search" "level" "I") ∈ lw_all := lw_g (lw_at lw_m4 41 rfl) rfl
theorem q867 : (Jvm.Cond.soleField "MaskedEars$Search" "level") ∈ lw_all := lw_g (lw_at lw_m4 42 rfl) rfl
theorem q868 : (Jvm.Cond.lays "MaskedEars$Search" "MaskedEars$Search" "ahead" "I") ∈ lw_all := lw_g (lw_at lw_m4 43 rfl) rfl
theorem q869 : (Jvm.Cond.soleField "MaskedEars$Search" "ahead") ∈ lw_all := lw_g (lw_at lw_m4 44 rfl) rfl
theorem q870 : (Jvm.Cond.lays "MaskedEars$Search" "MaskedEars$Search" "many" "I") ∈ lw_all := lw_g (lw_at lw_m4 45 rfl) rfl
theorem q871 : (Jvm.Cond.soleField "MaskedEars$Search" "many") ∈ lw_all := lw_g (lw_at lw_m4 46 rfl) rfl
theorem q872 : (Jvm.Cond.superclass "MaskedEars$Search" "java/lang/Object") ∈ lw_all := lw_g (lw_at lw_m4 47 rfl) rfl
theorem q1051 : (Jvm.Cond.instanceMethod ({ cls := "MaskedEars$Search", name := "takes", desc := "(Z)I" } : Jvm.MethodName)) ∈ lw_all := lw_g (lw_at lw_m4 226 rfl) rfl
theorem q1052 : (Jvm.Cond.selects "MaskedEars$Search" ({ cls := "MaskedEars$Search", name := "takes", desc := "(Z)I" } : Jvm.MethodName) ({ cls := "MaskedEars$Search", name := "takes", desc := "(Z)I" } : Jvm.MethodName)) ∈ lw_all := lw_g (lw_at lw_m4 227 rfl) rfl
theorem q1053 : (Jvm.Cond.code ({ cls := "MaskedEars$Search", name := "takes", desc := "(Z)I" } : Jvm.MethodName) prog_7_method_6_code (4 : Nat) (Option.some Jvm.ClassFile.FieldType.int)) ∈ lw_all := lw_g (lw_at lw_m4 228 rfl) rfl
theorem q1054 : (Jvm.Cond.methodLink "MaskedEars$Search" (46 : Nat) ({ cls := "MaskedEars$Search", name := "isAscent", desc := "()Z" } : Jvm.MethodName)) ∈ lw_all := lw_g (lw_at lw_m4 229 rfl) rfl
theorem q1055 : (Jvm.Cond.instanceMethod ({ cls := "MaskedEars$Search", name := "isAscent", desc := "()Z" } : Jvm.MethodName)) ∈ lw_all := lw_g (lw_at lw_m4 230 rfl) rfl
theorem q1056 : (Jvm.Cond.selects "MaskedEars$Search" ({ cls := "MaskedEars$Search", name := "isAscent", desc := "()Z" } : Jvm.MethodName) ({ cls := "MaskedEars$Search", name := "isAscent", desc := "()Z" } : Jvm.MethodName)) ∈ lw_all := lw_g (lw_at lw_m4 231 rfl) rfl
theorem q1057 : (Jvm.Cond.code ({ cls := "MaskedEars$Search", name := "isAscent", desc := "()Z" } : Jvm.MethodName) prog_7_method_3_code (1 : Nat) (Option.some Jvm.ClassFile.FieldType.boolean)) ∈ lw_all := lw_g (lw_at lw_m4 232 rfl) rfl
theorem q1058 : (Jvm.Cond.methodLink "MaskedEars$Search" (50 : Nat) ({ cls := "java/lang/Math", name := "max", desc := "(II)I" } : Jvm.MethodName)) ∈ lw_all := lw_g (lw_at lw_m4 233 rfl) rfl
theorem q1059 : (Jvm.Cond.methodLink "MaskedEars$Search" (56 : Nat) ({ cls := "java/lang/Math", name := "min", desc := "(II)I" } : Jvm.MethodName)) ∈ lw_all := lw_g (lw_at lw_m4 234 rfl) rfl
theorem q1060 : (Jvm.Cond.methodLink "MaskedEars$Search" (59 : Nat) ({ cls := "MaskedEars$Search", name := "latestHeard", desc := "(I)I" } : Jvm.MethodName)) ∈ lw_all := lw_g (lw_at lw_m4 235 rfl) rfl
theorem q1061 : (Jvm.Cond.instanceMethod ({ cls := "MaskedEars$Search", name := "latestHeard", desc := "(I)I" } : Jvm.MethodName)) ∈ lw_all := lw_g (lw_at lw_m4 236 rfl) rfl
theorem q1062 : (Jvm.Cond.selects "MaskedEars$Search" ({ cls := "MaskedEars$Search", name := "latestHeard", desc := "(I)I" } : Jvm.MethodName) ({ cls := "MaskedEars$Search", name := "latestHeard", desc := "(I)I" } : Jvm.MethodName)) ∈ lw_all := lw_g (lw_at lw_m4 237 rfl) rfl
theorem q1063 : (Jvm.Cond.code ({ cls := "MaskedEars$Search", name := "latestHeard", desc := "(I)I" } : Jvm.MethodName) prog_7_method_4_code (2 : Nat) (Option.some Jvm.ClassFile.FieldType.int)) ∈ lw_all := lw_g (lw_at lw_m4 238 rfl) rfl
theorem q1064 : (Jvm.Cond.methodLink "MaskedEars$Search" (40 : Nat) ({ cls := "java/lang/Integer", name := "bitCount", desc := "(I)I" } : Jvm.MethodName)) ∈ lw_all := lw_g (lw_at lw_m4 239 rfl) rfl
theorem q1070 : (Jvm.Cond.classLink "MaskedEars$Search" (62 : Nat) "MaskedEars$Lost") ∈ lw_all := lw_g (lw_at lw_m5 5 rfl) rfl
theorem q1071 : (Jvm.Cond.methodLink "MaskedEars$Search" (64 : Nat) ({ cls := "MaskedEars$Lost", name := "<init>", desc := "()V" } : Jvm.MethodName)) ∈ lw_all := lw_g (lw_at lw_m5 6 rfl) rfl
theorem q1166 : (Jvm.Cond.instanceMethod ({ cls := "MaskedEars$Search", name := "odd", desc := "(I)I" } : Jvm.MethodName)) ∈ lw_all := lw_g (lw_at lw_m5 101 rfl) rfl
theorem q1167 : (Jvm.Cond.selects "MaskedEars$Search" ({ cls := "MaskedEars$Search", name := "odd", desc := "(I)I" } : Jvm.MethodName) ({ cls := "MaskedEars$Search", name := "odd", desc := "(I)I" } : Jvm.MethodName)) ∈ lw_all := lw_g (lw_at lw_m5 102 rfl) rfl
theorem q1168 : (Jvm.Cond.code ({ cls := "MaskedEars$Search", name := "odd", desc := "(I)I" } : Jvm.MethodName) prog_7_method_5_code (4 : Nat) (Option.some Jvm.ClassFile.FieldType.int)) ∈ lw_all := lw_g (lw_at lw_m5 103 rfl) rfl
theorem q1209 : (Jvm.Cond.selects "MaskedEars$Search" ({ cls := "java/lang/Object", name := "equals", desc := "(Ljava/lang/Object;)Z" } : Jvm.MethodName) ({ cls := "java/lang/Object", name := "equals", desc := "(Ljava/lang/Object;)Z" } : Jvm.MethodName)) ∈ lw_all := lw_g (lw_at lw_m5 144 rfl) rfl
theorem q1362 : (Jvm.Cond.instanceMethod ({ cls := "MaskedEars$Search", name := "<init>", desc := "(LMaskedEars$Search;)V" } : Jvm.MethodName)) ∈ lw_all := lw_g (lw_at lw_m6 57 rfl) rfl
theorem q1363 : (Jvm.Cond.code ({ cls := "MaskedEars$Search", name := "<init>", desc := "(LMaskedEars$Search;)V" } : Jvm.MethodName) prog_7_method_2_code (2 : Nat) (Option.none : Option Jvm.ClassFile.FieldType)) ∈ lw_all := lw_g (lw_at lw_m6 58 rfl) rfl
theorem q1364 : (Jvm.Cond.methodLink "MaskedEars$Search" (31 : Nat) ({ cls := "java/lang/System", name := "arraycopy", desc := "(Ljava/lang/Object;ILjava/lang/Object;II)V" } : Jvm.MethodName)) ∈ lw_all := lw_g (lw_at lw_m6 59 rfl) rfl
theorem q2010 : (Jvm.Cond.castable "MaskedEars$Search" "java/lang/Object") ∈ lw_tbl := lw_at lw_m8 225 rfl
theorem in_X9 : ∀ w ∈ wsX90, w ∈ lw_all := lw_in wsX90 [858, 860, 862, 864, 866, 868, 870] (by decide +kernel) (by decide +kernel)
/-! MaskedEars$Unproved -/
set_option maxRecDepth 100000
def RX10 : String := "MaskedEars$Unproved"
def TX10 : u_T := fun k => match k with
  | 0 => ("java/lang/Throwable", "cause", "Ljava/lang/Throwable;", false)
  | 1 => ("java/lang/Throwable", "stackTrace", "[Ljava/lang/StackTraceElement;", false)
  | 2 => ("java/lang/Throwable", "suppressedExceptions", "Ljava/util/List;", false)
  | 3 => ("java/lang/Throwable", "detailMessage", "Ljava/lang/String;", false)
  | 4 => ("java/lang/Throwable", "backtrace", "Ljava/lang/Object;", false)
  | _ => ("java/lang/Throwable", "depth", "I", false)
def tyX10 : Nat → FieldType := fun k => match k with
  | 0 => .object "java/lang/Throwable"
  | 1 => .array (.object "java/lang/StackTraceElement")
  | 2 => .object "java/util/List"
  | 3 => .object "java/lang/String"
  | 4 => .object "java/lang/Object"
  | _ => .int
abbrev wsX100 : List Cond := u_ws RX10 TX10 6
theorem nmX10 : ∀ a, a < 6 → ∀ b, b < 6 → a ≠ b → (TX10 a).2.1 ≠ (TX10 b).2.1 := by decide +kernel
theorem tyX10_ok : ∀ k, k < 6 → parseFieldDescriptor (TX10 k).2.2.1 = some (tyX10 k) := by decide +kernel
abbrev cX10_init : ByteArray := prog_12_method_1_code
def yX10_init : MethodName := ⟨RX10, "<init>", "(Ljava/lang/Exception;)V"⟩
def dkwX10_init_0 : List UInt8 := [42, 1, 43, 4, 3, 183, 0, 3, 177]
abbrev dktX10_init_0 : List UInt8 := dkwX10_init_0 ++ []
theorem dksX10_init_0 : cX10_init.data.toList.drop 0 = dktX10_init_0 := by decide +kernel
theorem dX10_init_0 : decode cX10_init 0 = .ok (.aload_n 0, 1) := dk_42 (dk_at dksX10_init_0 0 rfl rfl)
theorem dX10_init_1 : decode cX10_init 1 = .ok (.aconst_null, 1) := dk_1 (dk_at dksX10_init_0 1 rfl rfl)
theorem dX10_init_2 : decode cX10_init 2 = .ok (.aload_n 1, 1) := dk_43 (dk_at dksX10_init_0 2 rfl rfl)
theorem dX10_init_3 : decode cX10_init 3 = .ok (.iconst 1, 1) := dk_4 (dk_at dksX10_init_0 3 rfl rfl)
theorem dX10_init_4 : decode cX10_init 4 = .ok (.iconst 0, 1) := dk_3 (dk_at dksX10_init_0 4 rfl rfl)
theorem dX10_init_5 : decode cX10_init 5 = .ok (.invokespecial 3, 3) := dk_183 0 3 (dk_at dksX10_init_0 5 rfl rfl)
theorem dX10_init_8 : decode cX10_init 8 = .ok (.return_, 1) := dk_177 (dk_at dksX10_init_0 8 rfl rfl)
abbrev cX10_state : ByteArray := prog_12_method_2_code
def yX10_state : MethodName := ⟨RX10, "state", "()I"⟩
def dkwX10_state_0 : List UInt8 := [42, 182, 0, 9, 193, 0, 15, 153, 0, 7, 7, 167, 0, 4, 6, 172]
abbrev dktX10_state_0 : List UInt8 := dkwX10_state_0 ++ []
theorem dksX10_state_0 : cX10_state.data.toList.drop 0 = dktX10_state_0 := by decide +kernel
theorem dX10_state_0 : decode cX10_state 0 = .ok (.aload_n 0, 1) := dk_42 (dk_at dksX10_state_0 0 rfl rfl)
theorem dX10_state_1 : decode cX10_state 1 = .ok (.invokevirtual 9, 3) := dk_182 0 9 (dk_at dksX10_state_0 1 rfl rfl)
theorem dX10_state_4 : decode cX10_state 4 = .ok (.instanceof 15, 3) := dk_193 0 15 (dk_at dksX10_state_0 4 rfl rfl)
theorem dX10_state_7 : decode cX10_state 7 = .ok (.ifCond .eq 7, 3) := dk_153 0 7 (dk_at dksX10_state_0 7 rfl rfl)
theorem dX10_state_10 : decode cX10_state 10 = .ok (.iconst 4, 1) := dk_7 (dk_at dksX10_state_0 10 rfl rfl)
theorem dX10_state_11 : decode cX10_state 11 = .ok (.goto 4, 3) := dk_167 0 4 (dk_at dksX10_state_0 11 rfl rfl)
theorem dX10_state_14 : decode cX10_state 14 = .ok (.iconst 3, 1) := dk_6 (dk_at dksX10_state_0 14 rfl rfl)
theorem dX10_state_15 : decode cX10_state 15 = .ok (.ireturn, 1) := dk_172 (dk_at dksX10_state_0 15 rfl rfl)
theorem q135 : (Jvm.Cond.initialized "MaskedEars$Unproved") ∈ lw_all := lw_g (lw_at lw_m1 30 rfl) rfl
theorem q449 : (Jvm.Cond.selects "MaskedEars$Unproved" ({ cls := "java/lang/Throwable", name := "fillInStackTrace", desc := "()Ljava/lang/Throwable;" } : Jvm.MethodName) ({ cls := "java/lang/Throwable", name := "fillInStackTrace", desc := "()Ljava/lang/Throwable;" } : Jvm.MethodName)) ∈ lw_all := lw_g (lw_at lw_m2 104 rfl) rfl
theorem q617 : (Jvm.Cond.selects "MaskedEars$Unproved" ({ cls := "java/lang/Object", name := "getClass", desc := "()Ljava/lang/Class;" } : Jvm.MethodName) ({ cls := "java/lang/Object", name := "getClass", desc := "()Ljava/lang/Class;" } : Jvm.MethodName)) ∈ lw_all := lw_g (lw_at lw_m3 32 rfl) rfl
theorem q875 : (Jvm.Cond.instantiable "MaskedEars$Unproved" (6 : Nat)) ∈ lw_all := lw_g (lw_at lw_m4 50 rfl) rfl
theorem q876 : (Jvm.Cond.castable "MaskedEars$Unproved" "MaskedEars$Unproved") ∈ lw_tbl := lw_at lw_m4 51 rfl
theorem q877 : (Jvm.Cond.selects "MaskedEars$Unproved" ({ cls := "java/lang/Throwable", name := "fillInStackTrace", desc := "(I)Ljava/lang/Throwable;" } : Jvm.MethodName) ({ cls := "java/lang/Throwable", name := "fillInStackTrace", desc := "(I)Ljava/lang/Throwable;" } : Jvm.MethodName)) ∈ lw_all := lw_g (lw_at lw_m4 52 rfl) rfl
theorem q878 : (Jvm.Cond.lays "MaskedEars$Unproved" "java/lang/Throwable" "cause" "Ljava/lang/Throwable;") ∈ lw_all := lw_g (lw_at lw_m4 53 rfl) rfl
theorem q879 : (Jvm.Cond.lays "MaskedEars$Unproved" "java/lang/Throwable" "stackTrace" "[Ljava/lang/StackTraceElement;") ∈ lw_all := lw_g (lw_at lw_m4 54 rfl) rfl
theorem q880 : (Jvm.Cond.lays "MaskedEars$Unproved" "java/lang/Throwable" "suppressedExceptions" "Ljava/util/List;") ∈ lw_all := lw_g (lw_at lw_m4 55 rfl) rfl
theorem q881 : (Jvm.Cond.lays "MaskedEars$Unproved" "java/lang/Throwable" "detailMessage" "Ljava/lang/String;") ∈ lw_all := lw_g (lw_at lw_m4 56 rfl) rfl
theorem q882 : (Jvm.Cond.lays "MaskedEars$Unproved" "java/lang/Throwable" "backtrace" "Ljava/lang/Object;") ∈ lw_all := lw_g (lw_at lw_m4 57 rfl) rfl
theorem q899 : (Jvm.Cond.instanceMethod ({ cls := "MaskedEars$Unproved", name := "<init>", desc := "(Ljava/lang/Exception;)V" } : Jvm.MethodName)) ∈ lw_all := lw_g (lw_at lw_m4 74 rfl) rfl
theorem q900 : (Jvm.Cond.code ({ cls := "MaskedEars$Unproved", name := "<init>", desc := "(Ljava/lang/Exception;)V" } : Jvm.MethodName) prog_12_method_1_code (2 : Nat) (Option.none : Option Jvm.ClassFile.FieldType)) ∈ lw_all := lw_g (lw_at lw_m4 75 rfl) rfl
theorem q901 : (Jvm.Cond.methodLink "MaskedEars$Unproved" (3 : Nat) ({ cls := "java/lang/Exception", name := "<init>", desc := "(Ljava/lang/String;Ljava/lang/Throwable;ZZ)V" } : Jvm.MethodName)) ∈ lw_all := lw_g (lw_at lw_m4 76 rfl) rfl
theorem q902 : (Jvm.Cond.lays "MaskedEars$Unproved" "java/lang/Throwable" "depth" "I") ∈ lw_all := lw_g (lw_at lw_m4 77 rfl) rfl
theorem q903 : (Jvm.Cond.superclass "MaskedEars$Unproved" "java/lang/Exception") ∈ lw_all := lw_g (lw_at lw_m4 78 rfl) rfl
theorem q937 : (Jvm.Cond.instanceMethod ({ cls := "MaskedEars$Unproved", name := "state", desc := "()I" } : Jvm.MethodName)) ∈ lw_all := lw_g (lw_at lw_m4 112 rfl) rfl
theorem q938 : (Jvm.Cond.selects "MaskedEars$Unproved" ({ cls := "MaskedEars$Unproved", name := "state", desc := "()I" } : Jvm.MethodName) ({ cls := "MaskedEars$Unproved", name := "state", desc := "()I" } : Jvm.MethodName)) ∈ lw_all := lw_g (lw_at lw_m4 113 rfl) rfl
theorem q939 : (Jvm.Cond.code ({ cls := "MaskedEars$Unproved", name := "state", desc := "()I" } : Jvm.MethodName) prog_12_method_2_code (1 : Nat) (Option.some Jvm.ClassFile.FieldType.int)) ∈ lw_all := lw_g (lw_at lw_m4 114 rfl) rfl
theorem q940 : (Jvm.Cond.methodLink "MaskedEars$Unproved" (9 : Nat) ({ cls := "MaskedEars$Unproved", name := "getCause", desc := "()Ljava/lang/Throwable;" } : Jvm.MethodName)) ∈ lw_all := lw_g (lw_at lw_m4 115 rfl) rfl
theorem q941 : (Jvm.Cond.sameMethod "MaskedEars$Unproved" "java/lang/Throwable" "getCause" "()Ljava/lang/Throwable;") ∈ lw_all := lw_g (lw_at lw_m4 116 rfl) rfl
theorem q943 : (Jvm.Cond.selects "MaskedEars$Unproved" ({ cls := "MaskedEars$Unproved", name := "getCause", desc := "()Ljava/lang/Throwable;" } : Jvm.MethodName) ({ cls := "java/lang/Throwable", name := "getCause", desc := "()Ljava/lang/Throwable;" } : Jvm.MethodName)) ∈ lw_all := lw_g (lw_at lw_m4 118 rfl) rfl
theorem q946 : (Jvm.Cond.classLink "MaskedEars$Unproved" (15 : Nat) "MaskedEars$Lost") ∈ lw_all := lw_g (lw_at lw_m4 121 rfl) rfl
theorem q1216 : (Jvm.Cond.selects "MaskedEars$Unproved" ({ cls := "java/lang/Object", name := "equals", desc := "(Ljava/lang/Object;)Z" } : Jvm.MethodName) ({ cls := "java/lang/Object", name := "equals", desc := "(Ljava/lang/Object;)Z" } : Jvm.MethodName)) ∈ lw_all := lw_g (lw_at lw_m5 151 rfl) rfl
theorem q2011 : (Jvm.Cond.castable "MaskedEars$Unproved" "java/lang/Object") ∈ lw_tbl := lw_at lw_m8 226 rfl
theorem in_X10 : ∀ w ∈ wsX100, w ∈ lw_all := lw_in wsX100 [878, 879, 880, 881, 882, 902] (by decide +kernel) (by decide +kernel)
/-! MaskedEars$Lost -/
set_option maxRecDepth 100000
def RX11 : String := "MaskedEars$Lost"
def TX11 : u_T := fun k => match k with
  | 0 => ("java/lang/Throwable", "cause", "Ljava/lang/Throwable;", false)
  | 1 => ("java/lang/Throwable", "stackTrace", "[Ljava/lang/StackTraceElement;", false)
  | 2 => ("java/lang/Throwable", "suppressedExceptions", "Ljava/util/List;", false)
  | 3 => ("java/lang/Throwable", "detailMessage", "Ljava/lang/String;", false)
  | 4 => ("java/lang/Throwable", "backtrace", "Ljava/lang/Object;", false)
  | _ => ("java/lang/Throwable", "depth", "I", false)
def tyX11 : Nat → FieldType := fun k => match k with
  | 0 => .object "java/lang/Throwable"
  | 1 => .array (.object "java/lang/StackTraceElement")
  | 2 => .object "java/util/List"
  | 3 => .object "java/lang/String"
  | 4 => .object "java/lang/Object"
  | _ => .int
abbrev wsX110 : List Cond := u_ws RX11 TX11 6
theorem nmX11 : ∀ a, a < 6 → ∀ b, b < 6 → a ≠ b → (TX11 a).2.1 ≠ (TX11 b).2.1 := by decide +kernel
theorem tyX11_ok : ∀ k, k < 6 → parseFieldDescriptor (TX11 k).2.2.1 = some (tyX11 k) := by decide +kernel
abbrev cX11_init : ByteArray := prog_5_method_1_code
def yX11_init : MethodName := ⟨RX11, "<init>", "()V"⟩
def dkwX11_init_0 : List UInt8 := [42, 1, 1, 4, 3, 183, 0, 1, 177]
abbrev dktX11_init_0 : List UInt8 := dkwX11_init_0 ++ []
theorem dksX11_init_0 : cX11_init.data.toList.drop 0 = dktX11_init_0 := by decide +kernel
theorem dX11_init_0 : decode cX11_init 0 = .ok (.aload_n 0, 1) := dk_42 (dk_at dksX11_init_0 0 rfl rfl)
theorem dX11_init_1 : decode cX11_init 1 = .ok (.aconst_null, 1) := dk_1 (dk_at dksX11_init_0 1 rfl rfl)
theorem dX11_init_2 : decode cX11_init 2 = .ok (.aconst_null, 1) := dk_1 (dk_at dksX11_init_0 2 rfl rfl)
theorem dX11_init_3 : decode cX11_init 3 = .ok (.iconst 1, 1) := dk_4 (dk_at dksX11_init_0 3 rfl rfl)
theorem dX11_init_4 : decode cX11_init 4 = .ok (.iconst 0, 1) := dk_3 (dk_at dksX11_init_0 4 rfl rfl)
theorem dX11_init_5 : decode cX11_init 5 = .ok (.invokespecial 1, 3) := dk_183 0 1 (dk_at dksX11_init_0 5 rfl rfl)
theorem dX11_init_8 : decode cX11_init 8 = .ok (.return_, 1) := dk_177 (dk_at dksX11_init_0 8 rfl rfl)
theorem q136 : (Jvm.Cond.initialized "MaskedEars$Lost") ∈ lw_all := lw_g (lw_at lw_m1 31 rfl) rfl
theorem q448 : (Jvm.Cond.selects "MaskedEars$Lost" ({ cls := "java/lang/Throwable", name := "fillInStackTrace", desc := "()Ljava/lang/Throwable;" } : Jvm.MethodName) ({ cls := "java/lang/Throwable", name := "fillInStackTrace", desc := "()Ljava/lang/Throwable;" } : Jvm.MethodName)) ∈ lw_all := lw_g (lw_at lw_m2 103 rfl) rfl
theorem q610 : (Jvm.Cond.selects "MaskedEars$Lost" ({ cls := "java/lang/Object", name := "getClass", desc := "()Ljava/lang/Class;" } : Jvm.MethodName) ({ cls := "java/lang/Object", name := "getClass", desc := "()Ljava/lang/Class;" } : Jvm.MethodName)) ∈ lw_all := lw_g (lw_at lw_m3 25 rfl) rfl
theorem q884 : (Jvm.Cond.instantiable "MaskedEars$Lost" (6 : Nat)) ∈ lw_all := lw_g (lw_at lw_m4 59 rfl) rfl
theorem q885 : (Jvm.Cond.castable "MaskedEars$Lost" "MaskedEars$Lost") ∈ lw_tbl := lw_at lw_m4 60 rfl
theorem q886 : (Jvm.Cond.selects "MaskedEars$Lost" ({ cls := "java/lang/Throwable", name := "fillInStackTrace", desc := "(I)Ljava/lang/Throwable;" } : Jvm.MethodName) ({ cls := "java/lang/Throwable", name := "fillInStackTrace", desc := "(I)Ljava/lang/Throwable;" } : Jvm.MethodName)) ∈ lw_all := lw_g (lw_at lw_m4 61 rfl) rfl
theorem q887 : (Jvm.Cond.lays "MaskedEars$Lost" "java/lang/Throwable" "cause" "Ljava/lang/Throwable;") ∈ lw_all := lw_g (lw_at lw_m4 62 rfl) rfl
theorem q888 : (Jvm.Cond.lays "MaskedEars$Lost" "java/lang/Throwable" "stackTrace" "[Ljava/lang/StackTraceElement;") ∈ lw_all := lw_g (lw_at lw_m4 63 rfl) rfl
theorem q889 : (Jvm.Cond.lays "MaskedEars$Lost" "java/lang/Throwable" "suppressedExceptions" "Ljava/util/List;") ∈ lw_all := lw_g (lw_at lw_m4 64 rfl) rfl
theorem q890 : (Jvm.Cond.lays "MaskedEars$Lost" "java/lang/Throwable" "detailMessage" "Ljava/lang/String;") ∈ lw_all := lw_g (lw_at lw_m4 65 rfl) rfl
theorem q891 : (Jvm.Cond.lays "MaskedEars$Lost" "java/lang/Throwable" "backtrace" "Ljava/lang/Object;") ∈ lw_all := lw_g (lw_at lw_m4 66 rfl) rfl
theorem q893 : (Jvm.Cond.instanceMethod ({ cls := "MaskedEars$Lost", name := "<init>", desc := "()V" } : Jvm.MethodName)) ∈ lw_all := lw_g (lw_at lw_m4 68 rfl) rfl
theorem q894 : (Jvm.Cond.code ({ cls := "MaskedEars$Lost", name := "<init>", desc := "()V" } : Jvm.MethodName) prog_5_method_1_code (1 : Nat) (Option.none : Option Jvm.ClassFile.FieldType)) ∈ lw_all := lw_g (lw_at lw_m4 69 rfl) rfl
theorem q895 : (Jvm.Cond.methodLink "MaskedEars$Lost" (1 : Nat) ({ cls := "java/lang/Exception", name := "<init>", desc := "(Ljava/lang/String;Ljava/lang/Throwable;ZZ)V" } : Jvm.MethodName)) ∈ lw_all := lw_g (lw_at lw_m4 70 rfl) rfl
theorem q896 : (Jvm.Cond.lays "MaskedEars$Lost" "java/lang/Throwable" "depth" "I") ∈ lw_all := lw_g (lw_at lw_m4 71 rfl) rfl
theorem q897 : (Jvm.Cond.superclass "MaskedEars$Lost" "java/lang/Exception") ∈ lw_all := lw_g (lw_at lw_m4 72 rfl) rfl
theorem q1207 : (Jvm.Cond.selects "MaskedEars$Lost" ({ cls := "java/lang/Object", name := "equals", desc := "(Ljava/lang/Object;)Z" } : Jvm.MethodName) ({ cls := "java/lang/Object", name := "equals", desc := "(Ljava/lang/Object;)Z" } : Jvm.MethodName)) ∈ lw_all := lw_g (lw_at lw_m5 142 rfl) rfl
theorem q2012 : (Jvm.Cond.castable "MaskedEars$Lost" "java/lang/Object") ∈ lw_tbl := lw_at lw_m8 227 rfl
theorem in_X11 : ∀ w ∈ wsX110, w ∈ lw_all := lw_in wsX110 [887, 888, 889, 890, 891, 896] (by decide +kernel) (by decide +kernel)
/-! MaskedEars$Dilemma -/
set_option maxRecDepth 100000
def RX12 : String := "MaskedEars$Dilemma"
def TX12 : u_T := fun k => match k with
  | 0 => ("java/lang/Throwable", "cause", "Ljava/lang/Throwable;", false)
  | 1 => ("java/lang/Throwable", "stackTrace", "[Ljava/lang/StackTraceElement;", false)
  | 2 => ("java/lang/Throwable", "suppressedExceptions", "Ljava/util/List;", false)
  | 3 => ("java/lang/Throwable", "detailMessage", "Ljava/lang/String;", false)
  | 4 => ("java/lang/Throwable", "backtrace", "Ljava/lang/Object;", false)
  | _ => ("java/lang/Throwable", "depth", "I", false)
def tyX12 : Nat → FieldType := fun k => match k with
  | 0 => .object "java/lang/Throwable"
  | 1 => .array (.object "java/lang/StackTraceElement")
  | 2 => .object "java/util/List"
  | 3 => .object "java/lang/String"
  | 4 => .object "java/lang/Object"
  | _ => .int
abbrev wsX120 : List Cond := u_ws RX12 TX12 6
theorem nmX12 : ∀ a, a < 6 → ∀ b, b < 6 → a ≠ b → (TX12 a).2.1 ≠ (TX12 b).2.1 := by decide +kernel
theorem tyX12_ok : ∀ k, k < 6 → parseFieldDescriptor (TX12 k).2.2.1 = some (tyX12 k) := by decide +kernel
abbrev cX12_init : ByteArray := prog_2_method_1_code
def yX12_init : MethodName := ⟨RX12, "<init>", "()V"⟩
def dkwX12_init_0 : List UInt8 := [42, 1, 1, 4, 3, 183, 0, 1, 177]
abbrev dktX12_init_0 : List UInt8 := dkwX12_init_0 ++ []
theorem dksX12_init_0 : cX12_init.data.toList.drop 0 = dktX12_init_0 := by decide +kernel
theorem dX12_init_0 : decode cX12_init 0 = .ok (.aload_n 0, 1) := dk_42 (dk_at dksX12_init_0 0 rfl rfl)
theorem dX12_init_1 : decode cX12_init 1 = .ok (.aconst_null, 1) := dk_1 (dk_at dksX12_init_0 1 rfl rfl)
theorem dX12_init_2 : decode cX12_init 2 = .ok (.aconst_null, 1) := dk_1 (dk_at dksX12_init_0 2 rfl rfl)
theorem dX12_init_3 : decode cX12_init 3 = .ok (.iconst 1, 1) := dk_4 (dk_at dksX12_init_0 3 rfl rfl)
theorem dX12_init_4 : decode cX12_init 4 = .ok (.iconst 0, 1) := dk_3 (dk_at dksX12_init_0 4 rfl rfl)
theorem dX12_init_5 : decode cX12_init 5 = .ok (.invokespecial 1, 3) := dk_183 0 1 (dk_at dksX12_init_0 5 rfl rfl)
theorem dX12_init_8 : decode cX12_init 8 = .ok (.return_, 1) := dk_177 (dk_at dksX12_init_0 8 rfl rfl)
theorem q137 : (Jvm.Cond.initialized "MaskedEars$Dilemma") ∈ lw_all := lw_g (lw_at lw_m1 32 rfl) rfl
theorem q447 : (Jvm.Cond.selects "MaskedEars$Dilemma" ({ cls := "java/lang/Throwable", name := "fillInStackTrace", desc := "()Ljava/lang/Throwable;" } : Jvm.MethodName) ({ cls := "java/lang/Throwable", name := "fillInStackTrace", desc := "()Ljava/lang/Throwable;" } : Jvm.MethodName)) ∈ lw_all := lw_g (lw_at lw_m2 102 rfl) rfl
theorem q607 : (Jvm.Cond.selects "MaskedEars$Dilemma" ({ cls := "java/lang/Object", name := "getClass", desc := "()Ljava/lang/Class;" } : Jvm.MethodName) ({ cls := "java/lang/Object", name := "getClass", desc := "()Ljava/lang/Class;" } : Jvm.MethodName)) ∈ lw_all := lw_g (lw_at lw_m3 22 rfl) rfl
theorem q917 : (Jvm.Cond.instantiable "MaskedEars$Dilemma" (6 : Nat)) ∈ lw_all := lw_g (lw_at lw_m4 92 rfl) rfl
theorem q918 : (Jvm.Cond.castable "MaskedEars$Dilemma" "MaskedEars$Dilemma") ∈ lw_tbl := lw_at lw_m4 93 rfl
theorem q919 : (Jvm.Cond.selects "MaskedEars$Dilemma" ({ cls := "java/lang/Throwable", name := "fillInStackTrace", desc := "(I)Ljava/lang/Throwable;" } : Jvm.MethodName) ({ cls := "java/lang/Throwable", name := "fillInStackTrace", desc := "(I)Ljava/lang/Throwable;" } : Jvm.MethodName)) ∈ lw_all := lw_g (lw_at lw_m4 94 rfl) rfl
theorem q920 : (Jvm.Cond.lays "MaskedEars$Dilemma" "java/lang/Throwable" "cause" "Ljava/lang/Throwable;") ∈ lw_all := lw_g (lw_at lw_m4 95 rfl) rfl
theorem q921 : (Jvm.Cond.lays "MaskedEars$Dilemma" "java/lang/Throwable" "stackTrace" "[Ljava/lang/StackTraceElement;") ∈ lw_all := lw_g (lw_at lw_m4 96 rfl) rfl
theorem q922 : (Jvm.Cond.lays "MaskedEars$Dilemma" "java/lang/Throwable" "suppressedExceptions" "Ljava/util/List;") ∈ lw_all := lw_g (lw_at lw_m4 97 rfl) rfl
theorem q923 : (Jvm.Cond.lays "MaskedEars$Dilemma" "java/lang/Throwable" "detailMessage" "Ljava/lang/String;") ∈ lw_all := lw_g (lw_at lw_m4 98 rfl) rfl
theorem q924 : (Jvm.Cond.lays "MaskedEars$Dilemma" "java/lang/Throwable" "backtrace" "Ljava/lang/Object;") ∈ lw_all := lw_g (lw_at lw_m4 99 rfl) rfl
theorem q926 : (Jvm.Cond.instanceMethod ({ cls := "MaskedEars$Dilemma", name := "<init>", desc := "()V" } : Jvm.MethodName)) ∈ lw_all := lw_g (lw_at lw_m4 101 rfl) rfl
theorem q927 : (Jvm.Cond.code ({ cls := "MaskedEars$Dilemma", name := "<init>", desc := "()V" } : Jvm.MethodName) prog_2_method_1_code (1 : Nat) (Option.none : Option Jvm.ClassFile.FieldType)) ∈ lw_all := lw_g (lw_at lw_m4 102 rfl) rfl
theorem q928 : (Jvm.Cond.methodLink "MaskedEars$Dilemma" (1 : Nat) ({ cls := "java/lang/Exception", name := "<init>", desc := "(Ljava/lang/String;Ljava/lang/Throwable;ZZ)V" } : Jvm.MethodName)) ∈ lw_all := lw_g (lw_at lw_m4 103 rfl) rfl
theorem q929 : (Jvm.Cond.lays "MaskedEars$Dilemma" "java/lang/Throwable" "depth" "I") ∈ lw_all := lw_g (lw_at lw_m4 104 rfl) rfl
theorem q930 : (Jvm.Cond.superclass "MaskedEars$Dilemma" "java/lang/Exception") ∈ lw_all := lw_g (lw_at lw_m4 105 rfl) rfl
theorem q1204 : (Jvm.Cond.selects "MaskedEars$Dilemma" ({ cls := "java/lang/Object", name := "equals", desc := "(Ljava/lang/Object;)Z" } : Jvm.MethodName) ({ cls := "java/lang/Object", name := "equals", desc := "(Ljava/lang/Object;)Z" } : Jvm.MethodName)) ∈ lw_all := lw_g (lw_at lw_m5 139 rfl) rfl
theorem q2013 : (Jvm.Cond.castable "MaskedEars$Dilemma" "java/lang/Object") ∈ lw_tbl := lw_at lw_m8 228 rfl
theorem in_X12 : ∀ w ∈ wsX120, w ∈ lw_all := lw_in wsX120 [920, 921, 922, 923, 924, 929] (by decide +kernel) (by decide +kernel)
/-! MaskedEars$Shown -/
set_option maxRecDepth 100000
def RX13 : String := "MaskedEars$Shown"
def TX13 : u_T := fun k => match k with
  | 0 => ("MaskedEars$Shown", "task", "I", true)
  | 1 => ("MaskedEars$Shown", "level", "I", true)
  | 2 => ("MaskedEars$Shown", "noise", "I", true)
  | 3 => ("MaskedEars$Shown", "heard", "Z", true)
  | 4 => ("MaskedEars$Shown", "number", "I", true)
  | _ => ("MaskedEars$Shown", "isAscent", "Z", true)
def tyX13 : Nat → FieldType := fun k => match k with
  | 0 => .int
  | 1 => .int
  | 2 => .int
  | 3 => .boolean
  | 4 => .int
  | _ => .boolean
abbrev wsX130 : List Cond := u_ws RX13 TX13 6
theorem nmX13 : ∀ a, a < 6 → ∀ b, b < 6 → a ≠ b → (TX13 a).2.1 ≠ (TX13 b).2.1 := by decide +kernel
theorem tyX13_ok : ∀ k, k < 6 → parseFieldDescriptor (TX13 k).2.2.1 = some (tyX13 k) := by decide +kernel
abbrev cX13_init : ByteArray := prog_8_method_1_code
def yX13_init : MethodName := ⟨RX13, "<init>", "(IIIZIZ)V"⟩
def dkwX13_init_1 : List UInt8 := [181, 0, 19, 42, 21, 5, 181, 0, 23, 42, 21, 6, 181, 0, 26, 177]
abbrev dktX13_init_1 : List UInt8 := dkwX13_init_1 ++ []
def dkwX13_init_0 : List UInt8 := [42, 183, 0, 1, 42, 27, 181, 0, 7, 42, 28, 181, 0, 13, 42, 29, 181, 0, 16, 42, 21, 4]
abbrev dktX13_init_0 : List UInt8 := dkwX13_init_0 ++ dktX13_init_1
theorem dksX13_init_0 : cX13_init.data.toList.drop 0 = dktX13_init_0 := by decide +kernel
theorem dksX13_init_1 : cX13_init.data.toList.drop 22 = dktX13_init_1 := dk_seg dksX13_init_0 22 rfl rfl
theorem dX13_init_0 : decode cX13_init 0 = .ok (.aload_n 0, 1) := dk_42 (dk_at dksX13_init_0 0 rfl rfl)
theorem dX13_init_1 : decode cX13_init 1 = .ok (.invokespecial 1, 3) := dk_183 0 1 (dk_at dksX13_init_0 1 rfl rfl)
theorem dX13_init_4 : decode cX13_init 4 = .ok (.aload_n 0, 1) := dk_42 (dk_at dksX13_init_0 4 rfl rfl)
theorem dX13_init_5 : decode cX13_init 5 = .ok (.iload_n 1, 1) := dk_27 (dk_at dksX13_init_0 5 rfl rfl)
theorem dX13_init_6 : decode cX13_init 6 = .ok (.putfield 7, 3) := dk_181 0 7 (dk_at dksX13_init_0 6 rfl rfl)
theorem dX13_init_9 : decode cX13_init 9 = .ok (.aload_n 0, 1) := dk_42 (dk_at dksX13_init_0 9 rfl rfl)
theorem dX13_init_10 : decode cX13_init 10 = .ok (.iload_n 2, 1) := dk_28 (dk_at dksX13_init_0 10 rfl rfl)
theorem dX13_init_11 : decode cX13_init 11 = .ok (.putfield 13, 3) := dk_181 0 13 (dk_at dksX13_init_0 11 rfl rfl)
theorem dX13_init_14 : decode cX13_init 14 = .ok (.aload_n 0, 1) := dk_42 (dk_at dksX13_init_0 14 rfl rfl)
theorem dX13_init_15 : decode cX13_init 15 = .ok (.iload_n 3, 1) := dk_29 (dk_at dksX13_init_0 15 rfl rfl)
theorem dX13_init_16 : decode cX13_init 16 = .ok (.putfield 16, 3) := dk_181 0 16 (dk_at dksX13_init_0 16 rfl rfl)
theorem dX13_init_19 : decode cX13_init 19 = .ok (.aload_n 0, 1) := dk_42 (dk_at dksX13_init_0 19 rfl rfl)
theorem dX13_init_20 : decode cX13_init 20 = .ok (.iload 4, 2) := dk_21 4 (dk_at dksX13_init_0 20 rfl rfl)
theorem dX13_init_22 : decode cX13_init 22 = .ok (.putfield 19, 3) := dk_181 0 19 (dk_at dksX13_init_1 0 rfl rfl)
theorem dX13_init_25 : decode cX13_init 25 = .ok (.aload_n 0, 1) := dk_42 (dk_at dksX13_init_1 3 rfl rfl)
theorem dX13_init_26 : decode cX13_init 26 = .ok (.iload 5, 2) := dk_21 5 (dk_at dksX13_init_1 4 rfl rfl)
theorem dX13_init_28 : decode cX13_init 28 = .ok (.putfield 23, 3) := dk_181 0 23 (dk_at dksX13_init_1 6 rfl rfl)
theorem dX13_init_31 : decode cX13_init 31 = .ok (.aload_n 0, 1) := dk_42 (dk_at dksX13_init_1 9 rfl rfl)
theorem dX13_init_32 : decode cX13_init 32 = .ok (.iload 6, 2) := dk_21 6 (dk_at dksX13_init_1 10 rfl rfl)
theorem dX13_init_34 : decode cX13_init 34 = .ok (.putfield 26, 3) := dk_181 0 26 (dk_at dksX13_init_1 12 rfl rfl)
theorem dX13_init_37 : decode cX13_init 37 = .ok (.return_, 1) := dk_177 (dk_at dksX13_init_1 15 rfl rfl)
abbrev cX13_equals : ByteArray := prog_8_method_4_code
def yX13_equals : MethodName := ⟨RX13, "equals", "(Ljava/lang/Object;)Z"⟩
def dkwX13_equals_0 : List UInt8 := [42, 43, 186, 0, 37, 0, 0, 172]
abbrev dktX13_equals_0 : List UInt8 := dkwX13_equals_0 ++ []
theorem dksX13_equals_0 : cX13_equals.data.toList.drop 0 = dktX13_equals_0 := by decide +kernel
theorem dX13_equals_0 : decode cX13_equals 0 = .ok (.aload_n 0, 1) := dk_42 (dk_at dksX13_equals_0 0 rfl rfl)
theorem dX13_equals_1 : decode cX13_equals 1 = .ok (.aload_n 1, 1) := dk_43 (dk_at dksX13_equals_0 1 rfl rfl)
theorem dX13_equals_2 : decode cX13_equals 2 = .ok (.invokedynamic 37, 5) := by decide +kernel
theorem dX13_equals_7 : decode cX13_equals 7 = .ok (.ireturn, 1) := dk_172 (dk_at dksX13_equals_0 7 rfl rfl)
abbrev cX13_task : ByteArray := prog_8_method_5_code
def yX13_task : MethodName := ⟨RX13, "task", "()I"⟩
theorem dX13_task_0 : decode cX13_task 0 = .ok (.aload_n 0, 1) := by decide +kernel
theorem dX13_task_1 : decode cX13_task 1 = .ok (.getfield 7, 3) := by decide +kernel
theorem dX13_task_4 : decode cX13_task 4 = .ok (.ireturn, 1) := by decide +kernel
abbrev cX13_level : ByteArray := prog_8_method_6_code
def yX13_level : MethodName := ⟨RX13, "level", "()I"⟩
theorem dX13_level_0 : decode cX13_level 0 = .ok (.aload_n 0, 1) := by decide +kernel
theorem dX13_level_1 : decode cX13_level 1 = .ok (.getfield 13, 3) := by decide +kernel
theorem dX13_level_4 : decode cX13_level 4 = .ok (.ireturn, 1) := by decide +kernel
abbrev cX13_noise : ByteArray := prog_8_method_7_code
def yX13_noise : MethodName := ⟨RX13, "noise", "()I"⟩
theorem dX13_noise_0 : decode cX13_noise 0 = .ok (.aload_n 0, 1) := by decide +kernel
theorem dX13_noise_1 : decode cX13_noise 1 = .ok (.getfield 16, 3) := by decide +kernel
theorem dX13_noise_4 : decode cX13_noise 4 = .ok (.ireturn, 1) := by decide +kernel
abbrev cX13_heard : ByteArray := prog_8_method_8_code
def yX13_heard : MethodName := ⟨RX13, "heard", "()Z"⟩
theorem dX13_heard_0 : decode cX13_heard 0 = .ok (.aload_n 0, 1) := by decide +kernel
theorem dX13_heard_1 : decode cX13_heard 1 = .ok (.getfield 19, 3) := by decide +kernel
theorem dX13_heard_4 : decode cX13_heard 4 = .ok (.ireturn, 1) := by decide +kernel
abbrev cX13_number : ByteArray := prog_8_method_9_code
def yX13_number : MethodName := ⟨RX13, "number", "()I"⟩
theorem dX13_number_0 : decode cX13_number 0 = .ok (.aload_n 0, 1) := by decide +kernel
theorem dX13_number_1 : decode cX13_number 1 = .ok (.getfield 23, 3) := by decide +kernel
theorem dX13_number_4 : decode cX13_number 4 = .ok (.ireturn, 1) := by decide +kernel
abbrev cX13_isAscent : ByteArray := prog_8_method_10_code
def yX13_isAscent : MethodName := ⟨RX13, "isAscent", "()Z"⟩
theorem dX13_isAscent_0 : decode cX13_isAscent 0 = .ok (.aload_n 0, 1) := by decide +kernel
theorem dX13_isAscent_1 : decode cX13_isAscent 1 = .ok (.getfield 26, 3) := by decide +kernel
theorem dX13_isAscent_4 : decode cX13_isAscent 4 = .ok (.ireturn, 1) := by decide +kernel
theorem q139 : (Jvm.Cond.initialized "MaskedEars$Shown") ∈ lw_all := lw_g (lw_at lw_m1 34 rfl) rfl
theorem q613 : (Jvm.Cond.selects "MaskedEars$Shown" ({ cls := "java/lang/Object", name := "getClass", desc := "()Ljava/lang/Class;" } : Jvm.MethodName) ({ cls := "java/lang/Object", name := "getClass", desc := "()Ljava/lang/Class;" } : Jvm.MethodName)) ∈ lw_all := lw_g (lw_at lw_m3 28 rfl) rfl
theorem q1109 : (Jvm.Cond.instantiable "MaskedEars$Shown" (6 : Nat)) ∈ lw_all := lw_g (lw_at lw_m5 44 rfl) rfl
theorem q1112 : (Jvm.Cond.instanceMethod ({ cls := "MaskedEars$Shown", name := "<init>", desc := "(IIIZIZ)V" } : Jvm.MethodName)) ∈ lw_all := lw_g (lw_at lw_m5 47 rfl) rfl
theorem q1113 : (Jvm.Cond.code ({ cls := "MaskedEars$Shown", name := "<init>", desc := "(IIIZIZ)V" } : Jvm.MethodName) prog_8_method_1_code (7 : Nat) (Option.none : Option Jvm.ClassFile.FieldType)) ∈ lw_all := lw_g (lw_at lw_m5 48 rfl) rfl
theorem q1114 : (Jvm.Cond.methodLink "MaskedEars$Shown" (1 : Nat) ({ cls := "java/lang/Record", name := "<init>", desc := "()V" } : Jvm.MethodName)) ∈ lw_all := lw_g (lw_at lw_m5 49 rfl) rfl
theorem q1118 : (Jvm.Cond.fieldLink "MaskedEars$Shown" (7 : Nat) "MaskedEars$Shown" "task" "I") ∈ lw_all := lw_g (lw_at lw_m5 53 rfl) rfl
theorem q1119 : (Jvm.Cond.fieldLink "MaskedEars$Shown" (13 : Nat) "MaskedEars$Shown" "level" "I") ∈ lw_all := lw_g (lw_at lw_m5 54 rfl) rfl
theorem q1120 : (Jvm.Cond.fieldLink "MaskedEars$Shown" (16 : Nat) "MaskedEars$Shown" "noise" "I") ∈ lw_all := lw_g (lw_at lw_m5 55 rfl) rfl
theorem q1121 : (Jvm.Cond.fieldLink "MaskedEars$Shown" (19 : Nat) "MaskedEars$Shown" "heard" "Z") ∈ lw_all := lw_g (lw_at lw_m5 56 rfl) rfl
theorem q1122 : (Jvm.Cond.fieldLink "MaskedEars$Shown" (23 : Nat) "MaskedEars$Shown" "number" "I") ∈ lw_all := lw_g (lw_at lw_m5 57 rfl) rfl
theorem q1123 : (Jvm.Cond.fieldLink "MaskedEars$Shown" (26 : Nat) "MaskedEars$Shown" "isAscent" "Z") ∈ lw_all := lw_g (lw_at lw_m5 58 rfl) rfl
theorem q1124 : (Jvm.Cond.laysFinal "MaskedEars$Shown" "MaskedEars$Shown" "task" "I") ∈ lw_all := lw_g (lw_at lw_m5 59 rfl) rfl
theorem q1125 : (Jvm.Cond.soleField "MaskedEars$Shown" "task") ∈ lw_all := lw_g (lw_at lw_m5 60 rfl) rfl
theorem q1126 : (Jvm.Cond.laysFinal "MaskedEars$Shown" "MaskedEars$Shown" "level" "I") ∈ lw_all := lw_g (lw_at lw_m5 61 rfl) rfl
theorem q1127 : (Jvm.Cond.soleField "MaskedEars$Shown" "level") ∈ lw_all := lw_g (lw_at lw_m5 62 rfl) rfl
theorem q1128 : (Jvm.Cond.laysFinal "MaskedEars$Shown" "MaskedEars$Shown" "noise" "I") ∈ lw_all := lw_g (lw_at lw_m5 63 rfl) rfl
theorem q1129 : (Jvm.Cond.soleField "MaskedEars$Shown" "noise") ∈ lw_all := lw_g (lw_at lw_m5 64 rfl) rfl
theorem q1130 : (Jvm.Cond.laysFinal "MaskedEars$Shown" "MaskedEars$Shown" "heard" "Z") ∈ lw_all := lw_g (lw_at lw_m5 65 rfl) rfl
theorem q1131 : (Jvm.Cond.soleField "MaskedEars$Shown" "heard") ∈ lw_all := lw_g (lw_at lw_m5 66 rfl) rfl
theorem q1132 : (Jvm.Cond.laysFinal "MaskedEars$Shown" "MaskedEars$Shown" "number" "I") ∈ lw_all := lw_g (lw_at lw_m5 67 rfl) rfl
theorem q1133 : (Jvm.Cond.soleField "MaskedEars$Shown" "number") ∈ lw_all := lw_g (lw_at lw_m5 68 rfl) rfl
theorem q1134 : (Jvm.Cond.laysFinal "MaskedEars$Shown" "MaskedEars$Shown" "isAscent" "Z") ∈ lw_all := lw_g (lw_at lw_m5 69 rfl) rfl
theorem q1135 : (Jvm.Cond.soleField "MaskedEars$Shown" "isAscent") ∈ lw_all := lw_g (lw_at lw_m5 70 rfl) rfl
theorem q1136 : (Jvm.Cond.superclass "MaskedEars$Shown" "java/lang/Record") ∈ lw_all := lw_g (lw_at lw_m5 71 rfl) rfl
theorem q1210 : (Jvm.Cond.selects "MaskedEars$Shown" ({ cls := "java/lang/Object", name := "equals", desc := "(Ljava/lang/Object;)Z" } : Jvm.MethodName) ({ cls := "MaskedEars$Shown", name := "equals", desc := "(Ljava/lang/Object;)Z" } : Jvm.MethodName)) ∈ lw_all := lw_g (lw_at lw_m5 145 rfl) rfl
theorem q1211 : (Jvm.Cond.instanceMethod ({ cls := "MaskedEars$Shown", name := "equals", desc := "(Ljava/lang/Object;)Z" } : Jvm.MethodName)) ∈ lw_all := lw_g (lw_at lw_m5 146 rfl) rfl
theorem q1212 : (Jvm.Cond.code ({ cls := "MaskedEars$Shown", name := "equals", desc := "(Ljava/lang/Object;)Z" } : Jvm.MethodName) prog_8_method_4_code (2 : Nat) (Option.some Jvm.ClassFile.FieldType.boolean)) ∈ lw_all := lw_g (lw_at lw_m5 147 rfl) rfl
theorem q1416 : (Jvm.Cond.instanceMethod ({ cls := "MaskedEars$Shown", name := "task", desc := "()I" } : Jvm.MethodName)) ∈ lw_all := lw_g (lw_at lw_m6 111 rfl) rfl
theorem q1417 : (Jvm.Cond.selects "MaskedEars$Shown" ({ cls := "MaskedEars$Shown", name := "task", desc := "()I" } : Jvm.MethodName) ({ cls := "MaskedEars$Shown", name := "task", desc := "()I" } : Jvm.MethodName)) ∈ lw_all := lw_g (lw_at lw_m6 112 rfl) rfl
theorem q1418 : (Jvm.Cond.code ({ cls := "MaskedEars$Shown", name := "task", desc := "()I" } : Jvm.MethodName) prog_8_method_5_code (1 : Nat) (Option.some Jvm.ClassFile.FieldType.int)) ∈ lw_all := lw_g (lw_at lw_m6 113 rfl) rfl
theorem q1420 : (Jvm.Cond.instanceMethod ({ cls := "MaskedEars$Shown", name := "level", desc := "()I" } : Jvm.MethodName)) ∈ lw_all := lw_g (lw_at lw_m6 115 rfl) rfl
theorem q1421 : (Jvm.Cond.selects "MaskedEars$Shown" ({ cls := "MaskedEars$Shown", name := "level", desc := "()I" } : Jvm.MethodName) ({ cls := "MaskedEars$Shown", name := "level", desc := "()I" } : Jvm.MethodName)) ∈ lw_all := lw_g (lw_at lw_m6 116 rfl) rfl
theorem q1422 : (Jvm.Cond.code ({ cls := "MaskedEars$Shown", name := "level", desc := "()I" } : Jvm.MethodName) prog_8_method_6_code (1 : Nat) (Option.some Jvm.ClassFile.FieldType.int)) ∈ lw_all := lw_g (lw_at lw_m6 117 rfl) rfl
theorem q1424 : (Jvm.Cond.instanceMethod ({ cls := "MaskedEars$Shown", name := "noise", desc := "()I" } : Jvm.MethodName)) ∈ lw_all := lw_g (lw_at lw_m6 119 rfl) rfl
theorem q1425 : (Jvm.Cond.selects "MaskedEars$Shown" ({ cls := "MaskedEars$Shown", name := "noise", desc := "()I" } : Jvm.MethodName) ({ cls := "MaskedEars$Shown", name := "noise", desc := "()I" } : Jvm.MethodName)) ∈ lw_all := lw_g (lw_at lw_m6 120 rfl) rfl
theorem q1426 : (Jvm.Cond.code ({ cls := "MaskedEars$Shown", name := "noise", desc := "()I" } : Jvm.MethodName) prog_8_method_7_code (1 : Nat) (Option.some Jvm.ClassFile.FieldType.int)) ∈ lw_all := lw_g (lw_at lw_m6 121 rfl) rfl
theorem q1428 : (Jvm.Cond.instanceMethod ({ cls := "MaskedEars$Shown", name := "heard", desc := "()Z" } : Jvm.MethodName)) ∈ lw_all := lw_g (lw_at lw_m6 123 rfl) rfl
theorem q1429 : (Jvm.Cond.selects "MaskedEars$Shown" ({ cls := "MaskedEars$Shown", name := "heard", desc := "()Z" } : Jvm.MethodName) ({ cls := "MaskedEars$Shown", name := "heard", desc := "()Z" } : Jvm.MethodName)) ∈ lw_all := lw_g (lw_at lw_m6 124 rfl) rfl
theorem q1430 : (Jvm.Cond.code ({ cls := "MaskedEars$Shown", name := "heard", desc := "()Z" } : Jvm.MethodName) prog_8_method_8_code (1 : Nat) (Option.some Jvm.ClassFile.FieldType.boolean)) ∈ lw_all := lw_g (lw_at lw_m6 125 rfl) rfl
theorem q1432 : (Jvm.Cond.instanceMethod ({ cls := "MaskedEars$Shown", name := "number", desc := "()I" } : Jvm.MethodName)) ∈ lw_all := lw_g (lw_at lw_m6 127 rfl) rfl
theorem q1433 : (Jvm.Cond.selects "MaskedEars$Shown" ({ cls := "MaskedEars$Shown", name := "number", desc := "()I" } : Jvm.MethodName) ({ cls := "MaskedEars$Shown", name := "number", desc := "()I" } : Jvm.MethodName)) ∈ lw_all := lw_g (lw_at lw_m6 128 rfl) rfl
theorem q1434 : (Jvm.Cond.code ({ cls := "MaskedEars$Shown", name := "number", desc := "()I" } : Jvm.MethodName) prog_8_method_9_code (1 : Nat) (Option.some Jvm.ClassFile.FieldType.int)) ∈ lw_all := lw_g (lw_at lw_m6 129 rfl) rfl
theorem q1436 : (Jvm.Cond.instanceMethod ({ cls := "MaskedEars$Shown", name := "isAscent", desc := "()Z" } : Jvm.MethodName)) ∈ lw_all := lw_g (lw_at lw_m6 131 rfl) rfl
theorem q1437 : (Jvm.Cond.selects "MaskedEars$Shown" ({ cls := "MaskedEars$Shown", name := "isAscent", desc := "()Z" } : Jvm.MethodName) ({ cls := "MaskedEars$Shown", name := "isAscent", desc := "()Z" } : Jvm.MethodName)) ∈ lw_all := lw_g (lw_at lw_m6 132 rfl) rfl
theorem q1438 : (Jvm.Cond.code ({ cls := "MaskedEars$Shown", name := "isAscent", desc := "()Z" } : Jvm.MethodName) prog_8_method_10_code (1 : Nat) (Option.some Jvm.ClassFile.FieldType.boolean)) ∈ lw_all := lw_g (lw_at lw_m6 133 rfl) rfl
theorem q2014 : (Jvm.Cond.castable "MaskedEars$Shown" "java/lang/Object") ∈ lw_tbl := lw_at lw_m8 229 rfl
theorem in_X13 : ∀ w ∈ wsX130, w ∈ lw_all := lw_in wsX130 [1124, 1126, 1128, 1130, 1132, 1134] (by decide +kernel) (by decide +kernel)
/-! the law's own entry -/
set_option maxRecDepth 100000
abbrev cL_law : ByteArray := code
def dkwL_law_76 : List UInt8 := [4, 172]
abbrev dktL_law_76 : List UInt8 := dkwL_law_76 ++ []
def dkwL_law_75 : List UInt8 := [159, 0, 18, 3, 172, 43, 182, 0, 208, 44, 182, 0, 211, 159, 0, 5, 3, 172, 132, 4, 7, 167, 248, 114]
abbrev dktL_law_75 : List UInt8 := dkwL_law_75 ++ dktL_law_76
def dkwL_law_74 : List UInt8 := [167, 0, 41, 43, 42, 21, 4, 4, 96, 46, 182, 0, 204, 44, 42, 21, 4, 4, 96, 46, 182, 0, 207]
abbrev dktL_law_74 : List UInt8 := dkwL_law_74 ++ dktL_law_75
def dkwL_law_73 : List UInt8 := [21, 5, 159, 0, 5, 3, 172, 21, 5, 154, 0, 15, 45, 3, 47, 21, 6, 133, 148, 153, 0, 5, 3, 172]
abbrev dktL_law_73 : List UInt8 := dkwL_law_73 ++ dktL_law_74
def dkwL_law_72 : List UInt8 := [96, 46, 45, 184, 0, 195, 54, 5, 44, 42, 21, 4, 4, 96, 46, 182, 0, 200, 54, 6, 44, 182, 0, 201]
abbrev dktL_law_72 : List UInt8 := dkwL_law_72 ++ dktL_law_73
def dkwL_law_71 : List UInt8 := [21, 4, 4, 96, 46, 42, 21, 4, 5, 96, 46, 182, 0, 194, 159, 0, 99, 3, 172, 43, 42, 21, 4, 4]
abbrev dktL_law_71 : List UInt8 := dkwL_law_71 ++ dktL_law_72
def dkwL_law_70 : List UInt8 := [159, 0, 136, 3, 172, 43, 42, 21, 4, 4, 96, 46, 42, 21, 4, 5, 96, 46, 182, 0, 191, 44, 42]
abbrev dktL_law_70 : List UInt8 := dkwL_law_70 ++ dktL_law_71
def dkwL_law_69 : List UInt8 := [3, 172, 43, 42, 21, 4, 4, 96, 46, 182, 0, 187, 44, 42, 21, 4, 4, 96, 46, 182, 0, 190]
abbrev dktL_law_69 : List UInt8 := dkwL_law_69 ++ dktL_law_70
def dkwL_law_68 : List UInt8 := [96, 46, 182, 0, 183, 44, 42, 21, 4, 4, 96, 46, 42, 21, 4, 5, 96, 46, 182, 0, 186, 159, 0, 161]
abbrev dktL_law_68 : List UInt8 := dkwL_law_68 ++ dktL_law_69
def dkwL_law_67 : List UInt8 := [21, 4, 6, 96, 46, 182, 0, 182, 159, 0, 198, 3, 172, 43, 42, 21, 4, 4, 96, 46, 42, 21, 4, 5]
abbrev dktL_law_67 : List UInt8 := dkwL_law_67 ++ dktL_law_68
def dkwL_law_66 : List UInt8 := [46, 42, 21, 4, 6, 96, 46, 182, 0, 179, 44, 42, 21, 4, 4, 96, 46, 42, 21, 4, 5, 96, 46, 42]
abbrev dktL_law_66 : List UInt8 := dkwL_law_66 ++ dktL_law_67
def dkwL_law_65 : List UInt8 := [182, 0, 175, 44, 182, 0, 178, 159, 0, 247, 3, 172, 43, 42, 21, 4, 4, 96, 46, 42, 21, 4, 5, 96]
abbrev dktL_law_65 : List UInt8 := dkwL_law_65 ++ dktL_law_66
def dkwL_law_64 : List UInt8 := [44, 42, 21, 4, 4, 96, 46, 42, 21, 4, 5, 96, 46, 182, 0, 174, 159, 1, 4, 3, 172, 43]
abbrev dktL_law_64 : List UInt8 := dkwL_law_64 ++ dktL_law_65
def dkwL_law_63 : List UInt8 := [182, 0, 170, 159, 1, 41, 3, 172, 43, 42, 21, 4, 4, 96, 46, 42, 21, 4, 5, 96, 46, 182, 0, 171]
abbrev dktL_law_63 : List UInt8 := dkwL_law_63 ++ dktL_law_64
def dkwL_law_62 : List UInt8 := [46, 182, 0, 163, 44, 42, 21, 4, 4, 96, 46, 182, 0, 166, 159, 1, 54, 3, 172, 43, 182, 0, 167, 44]
abbrev dktL_law_62 : List UInt8 := dkwL_law_62 ++ dktL_law_63
def dkwL_law_61 : List UInt8 := [182, 0, 159, 44, 42, 21, 4, 4, 96, 46, 182, 0, 162, 159, 1, 79, 3, 172, 43, 42, 21, 4, 4, 96]
abbrev dktL_law_61 : List UInt8 := dkwL_law_61 ++ dktL_law_62
def dkwL_law_60 : List UInt8 := [3, 172, 43, 182, 0, 155, 44, 182, 0, 158, 159, 1, 104, 3, 172, 43, 42, 21, 4, 4, 96, 46]
abbrev dktL_law_60 : List UInt8 := dkwL_law_60 ++ dktL_law_61
def dkwL_law_59 : List UInt8 := [96, 46, 182, 0, 151, 44, 42, 21, 4, 4, 96, 46, 42, 21, 4, 5, 96, 46, 182, 0, 154, 159, 1, 117]
abbrev dktL_law_59 : List UInt8 := dkwL_law_59 ++ dktL_law_60
def dkwL_law_58 : List UInt8 := [21, 4, 5, 96, 46, 182, 0, 150, 159, 1, 154, 3, 172, 43, 42, 21, 4, 4, 96, 46, 42, 21, 4, 5]
abbrev dktL_law_58 : List UInt8 := dkwL_law_58 ++ dktL_law_59
def dkwL_law_57 : List UInt8 := [43, 42, 21, 4, 4, 96, 46, 42, 21, 4, 5, 96, 46, 182, 0, 147, 44, 42, 21, 4, 4, 96, 46, 42]
abbrev dktL_law_57 : List UInt8 := dkwL_law_57 ++ dktL_law_58
def dkwL_law_56 : List UInt8 := [182, 0, 143, 44, 42, 21, 4, 4, 96, 46, 42, 21, 4, 5, 96, 46, 182, 0, 146, 159, 1, 191, 3, 172]
abbrev dktL_law_56 : List UInt8 := dkwL_law_56 ++ dktL_law_57
def dkwL_law_55 : List UInt8 := [6, 96, 46, 182, 0, 142, 159, 1, 228, 3, 172, 43, 42, 21, 4, 4, 96, 46, 42, 21, 4, 5, 96, 46]
abbrev dktL_law_55 : List UInt8 := dkwL_law_55 ++ dktL_law_56
def dkwL_law_54 : List UInt8 := [21, 4, 6, 96, 46, 182, 0, 139, 44, 42, 21, 4, 4, 96, 46, 42, 21, 4, 5, 96, 46, 42, 21, 4]
abbrev dktL_law_54 : List UInt8 := dkwL_law_54 ++ dktL_law_55
def dkwL_law_53 : List UInt8 := [46, 182, 0, 138, 159, 2, 21, 3, 172, 43, 42, 21, 4, 4, 96, 46, 42, 21, 4, 5, 96, 46, 42]
abbrev dktL_law_53 : List UInt8 := dkwL_law_53 ++ dktL_law_54
def dkwL_law_52 : List UInt8 := [6, 96, 46, 182, 0, 135, 44, 42, 21, 4, 4, 96, 46, 42, 21, 4, 5, 96, 46, 42, 21, 4, 6, 96]
abbrev dktL_law_52 : List UInt8 := dkwL_law_52 ++ dktL_law_53
def dkwL_law_51 : List UInt8 := [182, 0, 134, 159, 2, 70, 3, 172, 43, 42, 21, 4, 4, 96, 46, 42, 21, 4, 5, 96, 46, 42, 21, 4]
abbrev dktL_law_51 : List UInt8 := dkwL_law_51 ++ dktL_law_52
def dkwL_law_50 : List UInt8 := [182, 0, 131, 44, 42, 21, 4, 4, 96, 46, 42, 21, 4, 5, 96, 46, 42, 21, 4, 6, 96, 46]
abbrev dktL_law_50 : List UInt8 := dkwL_law_50 ++ dktL_law_51
def dkwL_law_49 : List UInt8 := [159, 2, 119, 3, 172, 43, 42, 21, 4, 4, 96, 46, 42, 21, 4, 5, 96, 46, 42, 21, 4, 6, 96, 46]
abbrev dktL_law_49 : List UInt8 := dkwL_law_49 ++ dktL_law_50
def dkwL_law_48 : List UInt8 := [3, 172, 43, 182, 0, 123, 44, 182, 0, 126, 159, 2, 132, 3, 172, 43, 182, 0, 127, 44, 182, 0, 130]
abbrev dktL_law_48 : List UInt8 := dkwL_law_48 ++ dktL_law_49
def dkwL_law_47 : List UInt8 := [96, 46, 182, 0, 119, 44, 42, 21, 4, 4, 96, 46, 42, 21, 4, 5, 96, 46, 182, 0, 122, 159, 2, 145]
abbrev dktL_law_47 : List UInt8 := dkwL_law_47 ++ dktL_law_48
def dkwL_law_46 : List UInt8 := [4, 167, 0, 4, 3, 182, 0, 118, 159, 2, 182, 3, 172, 43, 42, 21, 4, 4, 96, 46, 42, 21, 4, 5]
abbrev dktL_law_46 : List UInt8 := dkwL_law_46 ++ dktL_law_47
def dkwL_law_45 : List UInt8 := [4, 96, 46, 42, 21, 4, 5, 96, 46, 42, 21, 4, 6, 96, 46, 42, 21, 4, 7, 96, 46, 153, 0, 7]
abbrev dktL_law_45 : List UInt8 := dkwL_law_45 ++ dktL_law_46
def dkwL_law_44 : List UInt8 := [6, 96, 46, 42, 21, 4, 7, 96, 46, 153, 0, 7, 4, 167, 0, 4, 3, 182, 0, 114, 44, 42, 21, 4]
abbrev dktL_law_44 : List UInt8 := dkwL_law_44 ++ dktL_law_45
def dkwL_law_43 : List UInt8 := [182, 0, 113, 159, 3, 3, 3, 172, 43, 42, 21, 4, 4, 96, 46, 42, 21, 4, 5, 96, 46, 42, 21, 4]
abbrev dktL_law_43 : List UInt8 := dkwL_law_43 ++ dktL_law_44
def dkwL_law_42 : List UInt8 := [46, 42, 21, 4, 5, 96, 46, 182, 0, 110, 44, 42, 21, 4, 4, 96, 46, 42, 21, 4, 5, 96, 46]
abbrev dktL_law_42 : List UInt8 := dkwL_law_42 ++ dktL_law_43
def dkwL_law_41 : List UInt8 := [182, 0, 106, 44, 42, 21, 4, 4, 96, 46, 182, 0, 109, 159, 3, 40, 3, 172, 43, 42, 21, 4, 4, 96]
abbrev dktL_law_41 : List UInt8 := dkwL_law_41 ++ dktL_law_42
def dkwL_law_40 : List UInt8 := [3, 172, 43, 182, 0, 102, 44, 182, 0, 105, 159, 3, 65, 3, 172, 43, 42, 21, 4, 4, 96, 46]
abbrev dktL_law_40 : List UInt8 := dkwL_law_40 ++ dktL_law_41
def dkwL_law_39 : List UInt8 := [172, 43, 42, 21, 4, 4, 96, 46, 182, 0, 98, 44, 42, 21, 4, 4, 96, 46, 182, 0, 101, 159, 3, 78]
abbrev dktL_law_39 : List UInt8 := dkwL_law_39 ++ dktL_law_40
def dkwL_law_38 : List UInt8 := [167, 0, 4, 3, 182, 0, 93, 159, 3, 116, 3, 172, 43, 182, 0, 94, 44, 182, 0, 97, 159, 3, 103, 3]
abbrev dktL_law_38 : List UInt8 := dkwL_law_38 ++ dktL_law_39
def dkwL_law_37 : List UInt8 := [153, 0, 7, 4, 167, 0, 4, 3, 182, 0, 89, 44, 42, 21, 4, 4, 96, 46, 153, 0, 7, 4]
abbrev dktL_law_37 : List UInt8 := dkwL_law_37 ++ dktL_law_38
def dkwL_law_36 : List UInt8 := [46, 42, 21, 4, 5, 96, 46, 182, 0, 88, 159, 3, 157, 3, 172, 43, 42, 21, 4, 4, 96, 46]
abbrev dktL_law_36 : List UInt8 := dkwL_law_36 ++ dktL_law_37
def dkwL_law_35 : List UInt8 := [3, 172, 43, 42, 21, 4, 4, 96, 46, 42, 21, 4, 5, 96, 46, 182, 0, 84, 44, 42, 21, 4, 4, 96]
abbrev dktL_law_35 : List UInt8 := dkwL_law_35 ++ dktL_law_36
def dkwL_law_34 : List UInt8 := [172, 43, 42, 21, 4, 4, 96, 46, 182, 0, 80, 44, 42, 21, 4, 4, 96, 46, 182, 0, 83, 159, 3, 194]
abbrev dktL_law_34 : List UInt8 := dkwL_law_34 ++ dktL_law_35
def dkwL_law_33 : List UInt8 := [21, 4, 5, 96, 46, 42, 21, 4, 6, 96, 46, 42, 21, 4, 7, 96, 46, 182, 0, 79, 159, 3, 219, 3]
abbrev dktL_law_33 : List UInt8 := dkwL_law_33 ++ dktL_law_34
def dkwL_law_32 : List UInt8 := [42, 21, 4, 6, 96, 46, 42, 21, 4, 7, 96, 46, 182, 0, 76, 44, 42, 21, 4, 4, 96, 46, 42]
abbrev dktL_law_32 : List UInt8 := dkwL_law_32 ++ dktL_law_33
def dkwL_law_31 : List UInt8 := [8, 96, 46, 182, 0, 75, 159, 4, 24, 3, 172, 43, 42, 21, 4, 4, 96, 46, 42, 21, 4, 5, 96, 46]
abbrev dktL_law_31 : List UInt8 := dkwL_law_31 ++ dktL_law_32
def dkwL_law_30 : List UInt8 := [4, 96, 46, 42, 21, 4, 5, 96, 46, 42, 21, 4, 6, 96, 46, 42, 21, 4, 7, 96, 46, 42, 21, 4]
abbrev dktL_law_30 : List UInt8 := dkwL_law_30 ++ dktL_law_31
def dkwL_law_29 : List UInt8 := [21, 4, 6, 96, 46, 42, 21, 4, 7, 96, 46, 42, 21, 4, 8, 96, 46, 182, 0, 72, 44, 42, 21, 4]
abbrev dktL_law_29 : List UInt8 := dkwL_law_29 ++ dktL_law_30
def dkwL_law_28 : List UInt8 := [46, 182, 0, 71, 159, 4, 97, 3, 172, 43, 42, 21, 4, 4, 96, 46, 42, 21, 4, 5, 96, 46, 42]
abbrev dktL_law_28 : List UInt8 := dkwL_law_28 ++ dktL_law_29
def dkwL_law_27 : List UInt8 := [44, 42, 21, 4, 4, 96, 46, 42, 21, 4, 5, 96, 46, 42, 21, 4, 6, 96, 46, 42, 21, 4, 7, 96]
abbrev dktL_law_27 : List UInt8 := dkwL_law_27 ++ dktL_law_28
def dkwL_law_26 : List UInt8 := [4, 96, 46, 42, 21, 4, 5, 96, 46, 42, 21, 4, 6, 96, 46, 42, 21, 4, 7, 96, 46, 182, 0, 68]
abbrev dktL_law_26 : List UInt8 := dkwL_law_26 ++ dktL_law_27
def dkwL_law_25 : List UInt8 := [21, 4, 8, 96, 46, 42, 21, 4, 16, 6, 96, 46, 182, 0, 67, 159, 4, 158, 3, 172, 43, 42, 21, 4]
abbrev dktL_law_25 : List UInt8 := dkwL_law_25 ++ dktL_law_26
def dkwL_law_24 : List UInt8 := [21, 4, 4, 96, 46, 42, 21, 4, 5, 96, 46, 42, 21, 4, 6, 96, 46, 42, 21, 4, 7, 96, 46, 42]
abbrev dktL_law_24 : List UInt8 := dkwL_law_24 ++ dktL_law_25
def dkwL_law_23 : List UInt8 := [42, 21, 4, 7, 96, 46, 42, 21, 4, 8, 96, 46, 42, 21, 4, 16, 6, 96, 46, 182, 0, 63, 44, 42]
abbrev dktL_law_23 : List UInt8 := dkwL_law_23 ++ dktL_law_24
def dkwL_law_22 : List UInt8 := [159, 4, 245, 3, 172, 43, 42, 21, 4, 4, 96, 46, 42, 21, 4, 5, 96, 46, 42, 21, 4, 6, 96, 46]
abbrev dktL_law_22 : List UInt8 := dkwL_law_22 ++ dktL_law_23
def dkwL_law_21 : List UInt8 := [46, 42, 21, 4, 5, 96, 46, 42, 21, 4, 6, 96, 46, 42, 21, 4, 7, 96, 46, 182, 0, 62]
abbrev dktL_law_21 : List UInt8 := dkwL_law_21 ++ dktL_law_22
def dkwL_law_20 : List UInt8 := [5, 96, 46, 42, 21, 4, 6, 96, 46, 42, 21, 4, 7, 96, 46, 182, 0, 59, 44, 42, 21, 4, 4, 96]
abbrev dktL_law_20 : List UInt8 := dkwL_law_20 ++ dktL_law_21
def dkwL_law_19 : List UInt8 := [42, 21, 4, 7, 96, 46, 182, 0, 58, 159, 5, 50, 3, 172, 43, 42, 21, 4, 4, 96, 46, 42, 21, 4]
abbrev dktL_law_19 : List UInt8 := dkwL_law_19 ++ dktL_law_20
def dkwL_law_18 : List UInt8 := [96, 46, 182, 0, 55, 44, 42, 21, 4, 4, 96, 46, 42, 21, 4, 5, 96, 46, 42, 21, 4, 6, 96, 46]
abbrev dktL_law_18 : List UInt8 := dkwL_law_18 ++ dktL_law_19
def dkwL_law_17 : List UInt8 := [172, 43, 42, 21, 4, 4, 96, 46, 42, 21, 4, 5, 96, 46, 42, 21, 4, 6, 96, 46, 42, 21, 4, 7]
abbrev dktL_law_17 : List UInt8 := dkwL_law_17 ++ dktL_law_18
def dkwL_law_16 : List UInt8 := [21, 4, 5, 96, 46, 42, 21, 4, 6, 96, 46, 42, 21, 4, 7, 96, 46, 182, 0, 54, 159, 5, 111, 3]
abbrev dktL_law_16 : List UInt8 := dkwL_law_16 ++ dktL_law_17
def dkwL_law_15 : List UInt8 := [42, 21, 4, 6, 96, 46, 42, 21, 4, 7, 96, 46, 182, 0, 50, 44, 42, 21, 4, 4, 96, 46, 42]
abbrev dktL_law_15 : List UInt8 := dkwL_law_15 ++ dktL_law_16
def dkwL_law_14 : List UInt8 := [8, 96, 46, 182, 0, 49, 159, 5, 172, 3, 172, 43, 42, 21, 4, 4, 96, 46, 42, 21, 4, 5, 96, 46]
abbrev dktL_law_14 : List UInt8 := dkwL_law_14 ++ dktL_law_15
def dkwL_law_13 : List UInt8 := [4, 96, 46, 42, 21, 4, 5, 96, 46, 42, 21, 4, 6, 96, 46, 42, 21, 4, 7, 96, 46, 42, 21, 4]
abbrev dktL_law_13 : List UInt8 := dkwL_law_13 ++ dktL_law_14
def dkwL_law_12 : List UInt8 := [21, 4, 6, 96, 46, 42, 21, 4, 7, 96, 46, 42, 21, 4, 8, 96, 46, 182, 0, 46, 44, 42, 21, 4]
abbrev dktL_law_12 : List UInt8 := dkwL_law_12 ++ dktL_law_13
def dkwL_law_11 : List UInt8 := [46, 182, 0, 45, 159, 5, 245, 3, 172, 43, 42, 21, 4, 4, 96, 46, 42, 21, 4, 5, 96, 46, 42]
abbrev dktL_law_11 : List UInt8 := dkwL_law_11 ++ dktL_law_12
def dkwL_law_10 : List UInt8 := [6, 96, 46, 182, 0, 41, 44, 42, 21, 4, 4, 96, 46, 42, 21, 4, 5, 96, 46, 42, 21, 4, 6, 96]
abbrev dktL_law_10 : List UInt8 := dkwL_law_10 ++ dktL_law_11
def dkwL_law_9 : List UInt8 := [182, 0, 40, 159, 6, 38, 3, 172, 43, 42, 21, 4, 4, 96, 46, 42, 21, 4, 5, 96, 46, 42, 21, 4]
abbrev dktL_law_9 : List UInt8 := dkwL_law_9 ++ dktL_law_10
def dkwL_law_8 : List UInt8 := [159, 6, 63, 3, 172, 43, 42, 21, 4, 4, 96, 46, 182, 0, 37, 44, 42, 21, 4, 4, 96, 46]
abbrev dktL_law_8 : List UInt8 := dkwL_law_8 ++ dktL_law_9
def dkwL_law_7 : List UInt8 := [3, 172, 43, 182, 0, 28, 44, 182, 0, 32, 159, 6, 76, 3, 172, 43, 182, 0, 33, 44, 182, 0, 36]
abbrev dktL_law_7 : List UInt8 := dkwL_law_7 ++ dktL_law_8
def dkwL_law_6 : List UInt8 := [172, 43, 42, 21, 4, 4, 96, 46, 182, 0, 24, 44, 42, 21, 4, 4, 96, 46, 182, 0, 27, 159, 6, 89]
abbrev dktL_law_6 : List UInt8 := dkwL_law_6 ++ dktL_law_7
def dkwL_law_5 : List UInt8 := [21, 4, 6, 96, 46, 42, 21, 4, 7, 96, 46, 42, 21, 4, 8, 96, 46, 182, 0, 23, 159, 6, 114, 3]
abbrev dktL_law_5 : List UInt8 := dkwL_law_5 ++ dktL_law_6
def dkwL_law_4 : List UInt8 := [46, 42, 21, 4, 8, 96, 46, 182, 0, 19, 44, 42, 21, 4, 4, 96, 46, 42, 21, 4, 5, 96, 46, 42]
abbrev dktL_law_4 : List UInt8 := dkwL_law_4 ++ dktL_law_5
def dkwL_law_3 : List UInt8 := [43, 42, 21, 4, 4, 96, 46, 42, 21, 4, 5, 96, 46, 42, 21, 4, 6, 96, 46, 42, 21, 4, 7, 96]
abbrev dktL_law_3 : List UInt8 := dkwL_law_3 ++ dktL_law_4
def dkwL_law_2 : List UInt8 := [170, 0, 0, 0, 0, 0, 7, 122, 0, 0, 0, 0, 0, 0, 0, 44, 0, 0, 0, 196, 0, 0, 1, 13, 0, 0, 1, 38, 0, 0, 1, 51, 0, 0, 1, 64, 0, 0, 1, 89, 0, 0, 1, 138, 0, 0, 1, 211, 0, 0, 2, 16, 0, 0, 2, 77, 0, 0, 2, 138, 0, 0, 2, 225, 0, 0, 3, 30, 0, 0, 3, 103, 0, 0, 3, 164, 0, 0, 3, 189, 0, 0, 3, 226, 0, 0, 4, 11, 0, 0, 4, 24, 0, 0, 4, 49, 0, 0, 4, 62, 0, 0, 4, 87, 0, 0, 4, 124, 0, 0, 4, 201, 0, 0, 4, 238, 0, 0, 4, 251, 0, 0, 5, 8, 0, 0, 5, 57, 0, 0, 5, 106, 0, 0, 5, 155, 0, 0, 5, 192, 0, 0, 5, 229, 0, 0, 6, 10, 0, 0, 6, 23, 0, 0, 6, 48, 0, 0, 6, 73, 0, 0, 6, 86, 0, 0, 6, 123, 0, 0, 6, 136, 0, 0, 6, 185, 0, 0, 6, 222, 0, 0, 6, 247, 0, 0, 7, 28, 0, 0, 7, 84, 0, 0, 7, 109]
abbrev dktL_law_2 : List UInt8 := dkwL_law_2 ++ dktL_law_3
def dkwL_law_1 : List UInt8 := [21, 4, 42, 190, 16, 7, 100, 163, 7, 138, 42, 21, 4, 46, 16, 63, 126]
abbrev dktL_law_1 : List UInt8 := dkwL_law_1 ++ dktL_law_2
def dkwL_law_0 : List UInt8 := [187, 0, 8, 89, 183, 0, 15, 76, 187, 0, 16, 89, 183, 0, 18, 77, 4, 188, 11, 78, 3, 54, 4]
abbrev dktL_law_0 : List UInt8 := dkwL_law_0 ++ dktL_law_1
theorem dksL_law_0 : cL_law.data.toList.drop 0 = dktL_law_0 := by decide +kernel
theorem dksL_law_1 : cL_law.data.toList.drop 23 = dktL_law_1 := dk_seg dksL_law_0 23 rfl rfl
theorem dksL_law_2 : cL_law.data.toList.drop 40 = dktL_law_2 := dk_seg dksL_law_1 17 rfl rfl
theorem dksL_law_3 : cL_law.data.toList.drop 236 = dktL_law_3 := dk_seg dksL_law_2 196 rfl rfl
theorem dksL_law_4 : cL_law.data.toList.drop 260 = dktL_law_4 := dk_seg dksL_law_3 24 rfl rfl
theorem dksL_law_5 : cL_law.data.toList.drop 284 = dktL_law_5 := dk_seg dksL_law_4 24 rfl rfl
theorem dksL_law_6 : cL_law.data.toList.drop 308 = dktL_law_6 := dk_seg dksL_law_5 24 rfl rfl
theorem dksL_law_7 : cL_law.data.toList.drop 332 = dktL_law_7 := dk_seg dksL_law_6 24 rfl rfl
theorem dksL_law_8 : cL_law.data.toList.drop 355 = dktL_law_8 := dk_seg dksL_law_7 23 rfl rfl
theorem dksL_law_9 : cL_law.data.toList.drop 377 = dktL_law_9 := dk_seg dksL_law_8 22 rfl rfl
theorem dksL_law_10 : cL_law.data.toList.drop 401 = dktL_law_10 := dk_seg dksL_law_9 24 rfl rfl
theorem dksL_law_11 : cL_law.data.toList.drop 425 = dktL_law_11 := dk_seg dksL_law_10 24 rfl rfl
theorem dksL_law_12 : cL_law.data.toList.drop 448 = dktL_law_12 := dk_seg dksL_law_11 23 rfl rfl
theorem dksL_law_13 : cL_law.data.toList.drop 472 = dktL_law_13 := dk_seg dksL_law_12 24 rfl rfl
theorem dksL_law_14 : cL_law.data.toList.drop 496 = dktL_law_14 := dk_seg dksL_law_13 24 rfl rfl
theorem dksL_law_15 : cL_law.data.toList.drop 520 = dktL_law_15 := dk_seg dksL_law_14 24 rfl rfl
theorem dksL_law_16 : cL_law.data.toList.drop 543 = dktL_law_16 := dk_seg dksL_law_15 23 rfl rfl
theorem dksL_law_17 : cL_law.data.toList.drop 567 = dktL_law_17 := dk_seg dksL_law_16 24 rfl rfl
theorem dksL_law_18 : cL_law.data.toList.drop 591 = dktL_law_18 := dk_seg dksL_law_17 24 rfl rfl
theorem dksL_law_19 : cL_law.data.toList.drop 615 = dktL_law_19 := dk_seg dksL_law_18 24 rfl rfl
theorem dksL_law_20 : cL_law.data.toList.drop 639 = dktL_law_20 := dk_seg dksL_law_19 24 rfl rfl
theorem dksL_law_21 : cL_law.data.toList.drop 663 = dktL_law_21 := dk_seg dksL_law_20 24 rfl rfl
theorem dksL_law_22 : cL_law.data.toList.drop 685 = dktL_law_22 := dk_seg dksL_law_21 22 rfl rfl
theorem dksL_law_23 : cL_law.data.toList.drop 709 = dktL_law_23 := dk_seg dksL_law_22 24 rfl rfl
theorem dksL_law_24 : cL_law.data.toList.drop 733 = dktL_law_24 := dk_seg dksL_law_23 24 rfl rfl
theorem dksL_law_25 : cL_law.data.toList.drop 757 = dktL_law_25 := dk_seg dksL_law_24 24 rfl rfl
theorem dksL_law_26 : cL_law.data.toList.drop 781 = dktL_law_26 := dk_seg dksL_law_25 24 rfl rfl
theorem dksL_law_27 : cL_law.data.toList.drop 805 = dktL_law_27 := dk_seg dksL_law_26 24 rfl rfl
theorem dksL_law_28 : cL_law.data.toList.drop 829 = dktL_law_28 := dk_seg dksL_law_27 24 rfl rfl
theorem dksL_law_29 : cL_law.data.toList.drop 852 = dktL_law_29 := dk_seg dksL_law_28 23 rfl rfl
theorem dksL_law_30 : cL_law.data.toList.drop 876 = dktL_law_30 := dk_seg dksL_law_29 24 rfl rfl
theorem dksL_law_31 : cL_law.data.toList.drop 900 = dktL_law_31 := dk_seg dksL_law_30 24 rfl rfl
theorem dksL_law_32 : cL_law.data.toList.drop 924 = dktL_law_32 := dk_seg dksL_law_31 24 rfl rfl
theorem dksL_law_33 : cL_law.data.toList.drop 947 = dktL_law_33 := dk_seg dksL_law_32 23 rfl rfl
theorem dksL_law_34 : cL_law.data.toList.drop 971 = dktL_law_34 := dk_seg dksL_law_33 24 rfl rfl
theorem dksL_law_35 : cL_law.data.toList.drop 995 = dktL_law_35 := dk_seg dksL_law_34 24 rfl rfl
theorem dksL_law_36 : cL_law.data.toList.drop 1019 = dktL_law_36 := dk_seg dksL_law_35 24 rfl rfl
theorem dksL_law_37 : cL_law.data.toList.drop 1041 = dktL_law_37 := dk_seg dksL_law_36 22 rfl rfl
theorem dksL_law_38 : cL_law.data.toList.drop 1063 = dktL_law_38 := dk_seg dksL_law_37 22 rfl rfl
theorem dksL_law_39 : cL_law.data.toList.drop 1087 = dktL_law_39 := dk_seg dksL_law_38 24 rfl rfl
theorem dksL_law_40 : cL_law.data.toList.drop 1111 = dktL_law_40 := dk_seg dksL_law_39 24 rfl rfl
theorem dksL_law_41 : cL_law.data.toList.drop 1133 = dktL_law_41 := dk_seg dksL_law_40 22 rfl rfl
theorem dksL_law_42 : cL_law.data.toList.drop 1157 = dktL_law_42 := dk_seg dksL_law_41 24 rfl rfl
theorem dksL_law_43 : cL_law.data.toList.drop 1180 = dktL_law_43 := dk_seg dksL_law_42 23 rfl rfl
theorem dksL_law_44 : cL_law.data.toList.drop 1204 = dktL_law_44 := dk_seg dksL_law_43 24 rfl rfl
theorem dksL_law_45 : cL_law.data.toList.drop 1228 = dktL_law_45 := dk_seg dksL_law_44 24 rfl rfl
theorem dksL_law_46 : cL_law.data.toList.drop 1252 = dktL_law_46 := dk_seg dksL_law_45 24 rfl rfl
theorem dksL_law_47 : cL_law.data.toList.drop 1276 = dktL_law_47 := dk_seg dksL_law_46 24 rfl rfl
theorem dksL_law_48 : cL_law.data.toList.drop 1300 = dktL_law_48 := dk_seg dksL_law_47 24 rfl rfl
theorem dksL_law_49 : cL_law.data.toList.drop 1323 = dktL_law_49 := dk_seg dksL_law_48 23 rfl rfl
theorem dksL_law_50 : cL_law.data.toList.drop 1347 = dktL_law_50 := dk_seg dksL_law_49 24 rfl rfl
theorem dksL_law_51 : cL_law.data.toList.drop 1369 = dktL_law_51 := dk_seg dksL_law_50 22 rfl rfl
theorem dksL_law_52 : cL_law.data.toList.drop 1393 = dktL_law_52 := dk_seg dksL_law_51 24 rfl rfl
theorem dksL_law_53 : cL_law.data.toList.drop 1417 = dktL_law_53 := dk_seg dksL_law_52 24 rfl rfl
theorem dksL_law_54 : cL_law.data.toList.drop 1440 = dktL_law_54 := dk_seg dksL_law_53 23 rfl rfl
theorem dksL_law_55 : cL_law.data.toList.drop 1464 = dktL_law_55 := dk_seg dksL_law_54 24 rfl rfl
theorem dksL_law_56 : cL_law.data.toList.drop 1488 = dktL_law_56 := dk_seg dksL_law_55 24 rfl rfl
theorem dksL_law_57 : cL_law.data.toList.drop 1512 = dktL_law_57 := dk_seg dksL_law_56 24 rfl rfl
theorem dksL_law_58 : cL_law.data.toList.drop 1536 = dktL_law_58 := dk_seg dksL_law_57 24 rfl rfl
theorem dksL_law_59 : cL_law.data.toList.drop 1560 = dktL_law_59 := dk_seg dksL_law_58 24 rfl rfl
theorem dksL_law_60 : cL_law.data.toList.drop 1584 = dktL_law_60 := dk_seg dksL_law_59 24 rfl rfl
theorem dksL_law_61 : cL_law.data.toList.drop 1606 = dktL_law_61 := dk_seg dksL_law_60 22 rfl rfl
theorem dksL_law_62 : cL_law.data.toList.drop 1630 = dktL_law_62 := dk_seg dksL_law_61 24 rfl rfl
theorem dksL_law_63 : cL_law.data.toList.drop 1654 = dktL_law_63 := dk_seg dksL_law_62 24 rfl rfl
theorem dksL_law_64 : cL_law.data.toList.drop 1678 = dktL_law_64 := dk_seg dksL_law_63 24 rfl rfl
theorem dksL_law_65 : cL_law.data.toList.drop 1700 = dktL_law_65 := dk_seg dksL_law_64 22 rfl rfl
theorem dksL_law_66 : cL_law.data.toList.drop 1724 = dktL_law_66 := dk_seg dksL_law_65 24 rfl rfl
theorem dksL_law_67 : cL_law.data.toList.drop 1748 = dktL_law_67 := dk_seg dksL_law_66 24 rfl rfl
theorem dksL_law_68 : cL_law.data.toList.drop 1772 = dktL_law_68 := dk_seg dksL_law_67 24 rfl rfl
theorem dksL_law_69 : cL_law.data.toList.drop 1796 = dktL_law_69 := dk_seg dksL_law_68 24 rfl rfl
theorem dksL_law_70 : cL_law.data.toList.drop 1818 = dktL_law_70 := dk_seg dksL_law_69 22 rfl rfl
theorem dksL_law_71 : cL_law.data.toList.drop 1841 = dktL_law_71 := dk_seg dksL_law_70 23 rfl rfl
theorem dksL_law_72 : cL_law.data.toList.drop 1865 = dktL_law_72 := dk_seg dksL_law_71 24 rfl rfl
theorem dksL_law_73 : cL_law.data.toList.drop 1889 = dktL_law_73 := dk_seg dksL_law_72 24 rfl rfl
theorem dksL_law_74 : cL_law.data.toList.drop 1913 = dktL_law_74 := dk_seg dksL_law_73 24 rfl rfl
theorem dksL_law_75 : cL_law.data.toList.drop 1936 = dktL_law_75 := dk_seg dksL_law_74 23 rfl rfl
theorem dksL_law_76 : cL_law.data.toList.drop 1960 = dktL_law_76 := dk_seg dksL_law_75 24 rfl rfl
theorem dL_law_0 : decode cL_law 0 = .ok (.new 8, 3) := dk_187 0 8 (dk_at dksL_law_0 0 rfl rfl)
theorem dL_law_3 : decode cL_law 3 = .ok (.dup, 1) := dk_89 (dk_at dksL_law_0 3 rfl rfl)
theorem dL_law_4 : decode cL_law 4 = .ok (.invokespecial 15, 3) := dk_183 0 15 (dk_at dksL_law_0 4 rfl rfl)
theorem dL_law_7 : decode cL_law 7 = .ok (.astore_n 1, 1) := dk_76 (dk_at dksL_law_0 7 rfl rfl)
theorem dL_law_8 : decode cL_law 8 = .ok (.new 16, 3) := dk_187 0 16 (dk_at dksL_law_0 8 rfl rfl)
theorem dL_law_11 : decode cL_law 11 = .ok (.dup, 1) := dk_89 (dk_at dksL_law_0 11 rfl rfl)
theorem dL_law_12 : decode cL_law 12 = .ok (.invokespecial 18, 3) := dk_183 0 18 (dk_at dksL_law_0 12 rfl rfl)
theorem dL_law_15 : decode cL_law 15 = .ok (.astore_n 2, 1) := dk_77 (dk_at dksL_law_0 15 rfl rfl)
theorem dL_law_16 : decode cL_law 16 = .ok (.iconst 1, 1) := dk_4 (dk_at dksL_law_0 16 rfl rfl)
theorem dL_law_17 : decode cL_law 17 = .ok (.newarray .long, 2) := dk_188_11 (dk_at dksL_law_0 17 rfl rfl)
theorem dL_law_19 : decode cL_law 19 = .ok (.astore_n 3, 1) := dk_78 (dk_at dksL_law_0 19 rfl rfl)
theorem dL_law_20 : decode cL_law 20 = .ok (.iconst 0, 1) := dk_3 (dk_at dksL_law_0 20 rfl rfl)
theorem dL_law_21 : decode cL_law 21 = .ok (.istore 4, 2) := dk_54 4 (dk_at dksL_law_0 21 rfl rfl)
theorem dL_law_23 : decode cL_law 23 = .ok (.iload 4, 2) := dk_21 4 (dk_at dksL_law_1 0 rfl rfl)
theorem dL_law_25 : decode cL_law 25 = .ok (.aload_n 0, 1) := dk_42 (dk_at dksL_law_1 2 rfl rfl)
theorem dL_law_26 : decode cL_law 26 = .ok (.arraylength, 1) := dk_190 (dk_at dksL_law_1 3 rfl rfl)
theorem dL_law_27 : decode cL_law 27 = .ok (.bipush 7, 2) := dk_16 7 (dk_at dksL_law_1 4 rfl rfl)
theorem dL_law_29 : decode cL_law 29 = .ok (.isub, 1) := dk_100 (dk_at dksL_law_1 6 rfl rfl)
theorem dL_law_30 : decode cL_law 30 = .ok (.if_icmp .gt 1930, 3) := dk_163 7 138 (dk_at dksL_law_1 7 rfl rfl)
theorem dL_law_33 : decode cL_law 33 = .ok (.aload_n 0, 1) := dk_42 (dk_at dksL_law_1 10 rfl rfl)
theorem dL_law_34 : decode cL_law 34 = .ok (.iload 4, 2) := dk_21 4 (dk_at dksL_law_1 11 rfl rfl)
theorem dL_law_36 : decode cL_law 36 = .ok (.iaload, 1) := dk_46 (dk_at dksL_law_1 13 rfl rfl)
theorem dL_law_37 : decode cL_law 37 = .ok (.bipush 63, 2) := dk_16 63 (dk_at dksL_law_1 14 rfl rfl)
theorem dL_law_39 : decode cL_law 39 = .ok (.iand, 1) := dk_126 (dk_at dksL_law_1 16 rfl rfl)
theorem dL_law_40 : decode cL_law 40 = .ok (.tableswitch 1914 0 44 #[196, 269, 294, 307, 320, 345, 394, 467, 528, 589, 650, 737, 798, 871, 932, 957, 994, 1035, 1048, 1073, 1086, 1111, 1148, 1225, 1262, 1275, 1288, 1337, 1386, 1435, 1472, 1509, 1546, 1559, 1584, 1609, 1622, 1659, 1672, 1721, 1758, 1783, 1820, 1876, 1901], 196) := by decide +kernel
theorem dL_law_236 : decode cL_law 236 = .ok (.aload_n 1, 1) := dk_43 (dk_at dksL_law_3 0 rfl rfl)
theorem dL_law_237 : decode cL_law 237 = .ok (.aload_n 0, 1) := dk_42 (dk_at dksL_law_3 1 rfl rfl)
theorem dL_law_238 : decode cL_law 238 = .ok (.iload 4, 2) := dk_21 4 (dk_at dksL_law_3 2 rfl rfl)
theorem dL_law_240 : decode cL_law 240 = .ok (.iconst 1, 1) := dk_4 (dk_at dksL_law_3 4 rfl rfl)
theorem dL_law_241 : decode cL_law 241 = .ok (.iadd, 1) := dk_96 (dk_at dksL_law_3 5 rfl rfl)
theorem dL_law_242 : decode cL_law 242 = .ok (.iaload, 1) := dk_46 (dk_at dksL_law_3 6 rfl rfl)
theorem dL_law_243 : decode cL_law 243 = .ok (.aload_n 0, 1) := dk_42 (dk_at dksL_law_3 7 rfl rfl)
theorem dL_law_244 : decode cL_law 244 = .ok (.iload 4, 2) := dk_21 4 (dk_at dksL_law_3 8 rfl rfl)
theorem dL_law_246 : decode cL_law 246 = .ok (.iconst 2, 1) := dk_5 (dk_at dksL_law_3 10 rfl rfl)
theorem dL_law_247 : decode cL_law 247 = .ok (.iadd, 1) := dk_96 (dk_at dksL_law_3 11 rfl rfl)
theorem dL_law_248 : decode cL_law 248 = .ok (.iaload, 1) := dk_46 (dk_at dksL_law_3 12 rfl rfl)
theorem dL_law_249 : decode cL_law 249 = .ok (.aload_n 0, 1) := dk_42 (dk_at dksL_law_3 13 rfl rfl)
theorem dL_law_250 : decode cL_law 250 = .ok (.iload 4, 2) := dk_21 4 (dk_at dksL_law_3 14 rfl rfl)
theorem dL_law_252 : decode cL_law 252 = .ok (.iconst 3, 1) := dk_6 (dk_at dksL_law_3 16 rfl rfl)
theorem dL_law_253 : decode cL_law 253 = .ok (.iadd, 1) := dk_96 (dk_at dksL_law_3 17 rfl rfl)
theorem dL_law_254 : decode cL_law 254 = .ok (.iaload, 1) := dk_46 (dk_at dksL_law_3 18 rfl rfl)
theorem dL_law_255 : decode cL_law 255 = .ok (.aload_n 0, 1) := dk_42 (dk_at dksL_law_3 19 rfl rfl)
theorem dL_law_256 : decode cL_law 256 = .ok (.iload 4, 2) := dk_21 4 (dk_at dksL_law_3 20 rfl rfl)
theorem dL_law_258 : decode cL_law 258 = .ok (.iconst 4, 1) := dk_7 (dk_at dksL_law_3 22 rfl rfl)
theorem dL_law_259 : decode cL_law 259 = .ok (.iadd, 1) := dk_96 (dk_at dksL_law_3 23 rfl rfl)
theorem dL_law_260 : decode cL_law 260 = .ok (.iaload, 1) := dk_46 (dk_at dksL_law_4 0 rfl rfl)
theorem dL_law_261 : decode cL_law 261 = .ok (.aload_n 0, 1) := dk_42 (dk_at dksL_law_4 1 rfl rfl)
theorem dL_law_262 : decode cL_law 262 = .ok (.iload 4, 2) := dk_21 4 (dk_at dksL_law_4 2 rfl rfl)
theorem dL_law_264 : decode cL_law 264 = .ok (.iconst 5, 1) := dk_8 (dk_at dksL_law_4 4 rfl rfl)
theorem dL_law_265 : decode cL_law 265 = .ok (.iadd, 1) := dk_96 (dk_at dksL_law_4 5 rfl rfl)
theorem dL_law_266 : decode cL_law 266 = .ok (.iaload, 1) := dk_46 (dk_at dksL_law_4 6 rfl rfl)
theorem dL_law_267 : decode cL_law 267 = .ok (.invokevirtual 19, 3) := dk_182 0 19 (dk_at dksL_law_4 7 rfl rfl)
theorem dL_law_270 : decode cL_law 270 = .ok (.aload_n 2, 1) := dk_44 (dk_at dksL_law_4 10 rfl rfl)
theorem dL_law_271 : decode cL_law 271 = .ok (.aload_n 0, 1) := dk_42 (dk_at dksL_law_4 11 rfl rfl)
theorem dL_law_272 : decode cL_law 272 = .ok (.iload 4, 2) := dk_21 4 (dk_at dksL_law_4 12 rfl rfl)
theorem dL_law_274 : decode cL_law 274 = .ok (.iconst 1, 1) := dk_4 (dk_at dksL_law_4 14 rfl rfl)
theorem dL_law_275 : decode cL_law 275 = .ok (.iadd, 1) := dk_96 (dk_at dksL_law_4 15 rfl rfl)
theorem dL_law_276 : decode cL_law 276 = .ok (.iaload, 1) := dk_46 (dk_at dksL_law_4 16 rfl rfl)
theorem dL_law_277 : decode cL_law 277 = .ok (.aload_n 0, 1) := dk_42 (dk_at dksL_law_4 17 rfl rfl)
theorem dL_law_278 : decode cL_law 278 = .ok (.iload 4, 2) := dk_21 4 (dk_at dksL_law_4 18 rfl rfl)
theorem dL_law_280 : decode cL_law 280 = .ok (.iconst 2, 1) := dk_5 (dk_at dksL_law_4 20 rfl rfl)
theorem dL_law_281 : decode cL_law 281 = .ok (.iadd, 1) := dk_96 (dk_at dksL_law_4 21 rfl rfl)
theorem dL_law_282 : decode cL_law 282 = .ok (.iaload, 1) := dk_46 (dk_at dksL_law_4 22 rfl rfl)
theorem dL_law_283 : decode cL_law 283 = .ok (.aload_n 0, 1) := dk_42 (dk_at dksL_law_4 23 rfl rfl)
theorem dL_law_284 : decode cL_law 284 = .ok (.iload 4, 2) := dk_21 4 (dk_at dksL_law_5 0 rfl rfl)
theorem dL_law_286 : decode cL_law 286 = .ok (.iconst 3, 1) := dk_6 (dk_at dksL_law_5 2 rfl rfl)
theorem dL_law_287 : decode cL_law 287 = .ok (.iadd, 1) := dk_96 (dk_at dksL_law_5 3 rfl rfl)
theorem dL_law_288 : decode cL_law 288 = .ok (.iaload, 1) := dk_46 (dk_at dksL_law_5 4 rfl rfl)
theorem dL_law_289 : decode cL_law 289 = .ok (.aload_n 0, 1) := dk_42 (dk_at dksL_law_5 5 rfl rfl)
theorem dL_law_290 : decode cL_law 290 = .ok (.iload 4, 2) := dk_21 4 (dk_at dksL_law_5 6 rfl rfl)
theorem dL_law_292 : decode cL_law 292 = .ok (.iconst 4, 1) := dk_7 (dk_at dksL_law_5 8 rfl rfl)
theorem dL_law_293 : decode cL_law 293 = .ok (.iadd, 1) := dk_96 (dk_at dksL_law_5 9 rfl rfl)
theorem dL_law_294 : decode cL_law 294 = .ok (.iaload, 1) := dk_46 (dk_at dksL_law_5 10 rfl rfl)
theorem dL_law_295 : decode cL_law 295 = .ok (.aload_n 0, 1) := dk_42 (dk_at dksL_law_5 11 rfl rfl)
theorem dL_law_296 : decode cL_law 296 = .ok (.iload 4, 2) := dk_21 4 (dk_at dksL_law_5 12 rfl rfl)
theorem dL_law_298 : decode cL_law 298 = .ok (.iconst 5, 1) := dk_8 (dk_at dksL_law_5 14 rfl rfl)
theorem dL_law_299 : decode cL_law 299 = .ok (.iadd, 1) := dk_96 (dk_at dksL_law_5 15 rfl rfl)
theorem dL_law_300 : decode cL_law 300 = .ok (.iaload, 1) := dk_46 (dk_at dksL_law_5 16 rfl rfl)
theorem dL_law_301 : decode cL_law 301 = .ok (.invokevirtual 23, 3) := dk_182 0 23 (dk_at dksL_law_5 17 rfl rfl)
theorem dL_law_304 : decode cL_law 304 = .ok (.if_icmp .eq 1650, 3) := dk_159 6 114 (dk_at dksL_law_5 20 rfl rfl)
theorem dL_law_307 : decode cL_law 307 = .ok (.iconst 0, 1) := dk_3 (dk_at dksL_law_5 23 rfl rfl)
theorem dL_law_308 : decode cL_law 308 = .ok (.ireturn, 1) := dk_172 (dk_at dksL_law_6 0 rfl rfl)
theorem dL_law_309 : decode cL_law 309 = .ok (.aload_n 1, 1) := dk_43 (dk_at dksL_law_6 1 rfl rfl)
theorem dL_law_310 : decode cL_law 310 = .ok (.aload_n 0, 1) := dk_42 (dk_at dksL_law_6 2 rfl rfl)
theorem dL_law_311 : decode cL_law 311 = .ok (.iload 4, 2) := dk_21 4 (dk_at dksL_law_6 3 rfl rfl)
theorem dL_law_313 : decode cL_law 313 = .ok (.iconst 1, 1) := dk_4 (dk_at dksL_law_6 5 rfl rfl)
theorem dL_law_314 : decode cL_law 314 = .ok (.iadd, 1) := dk_96 (dk_at dksL_law_6 6 rfl rfl)
theorem dL_law_315 : decode cL_law 315 = .ok (.iaload, 1) := dk_46 (dk_at dksL_law_6 7 rfl rfl)
theorem dL_law_316 : decode cL_law 316 = .ok (.invokevirtual 24, 3) := dk_182 0 24 (dk_at dksL_law_6 8 rfl rfl)
theorem dL_law_319 : decode cL_law 319 = .ok (.aload_n 2, 1) := dk_44 (dk_at dksL_law_6 11 rfl rfl)
theorem dL_law_320 : decode cL_law 320 = .ok (.aload_n 0, 1) := dk_42 (dk_at dksL_law_6 12 rfl rfl)
theorem dL_law_321 : decode cL_law 321 = .ok (.iload 4, 2) := dk_21 4 (dk_at dksL_law_6 13 rfl rfl)
theorem dL_law_323 : decode cL_law 323 = .ok (.iconst 1, 1) := dk_4 (dk_at dksL_law_6 15 rfl rfl)
theorem dL_law_324 : decode cL_law 324 = .ok (.iadd, 1) := dk_96 (dk_at dksL_law_6 16 rfl rfl)
theorem dL_law_325 : decode cL_law 325 = .ok (.iaload, 1) := dk_46 (dk_at dksL_law_6 17 rfl rfl)
theorem dL_law_326 : decode cL_law 326 = .ok (.invokevirtual 27, 3) := dk_182 0 27 (dk_at dksL_law_6 18 rfl rfl)
theorem dL_law_329 : decode cL_law 329 = .ok (.if_icmp .eq 1625, 3) := dk_159 6 89 (dk_at dksL_law_6 21 rfl rfl)
theorem dL_law_332 : decode cL_law 332 = .ok (.iconst 0, 1) := dk_3 (dk_at dksL_law_7 0 rfl rfl)
theorem dL_law_333 : decode cL_law 333 = .ok (.ireturn, 1) := dk_172 (dk_at dksL_law_7 1 rfl rfl)
theorem dL_law_334 : decode cL_law 334 = .ok (.aload_n 1, 1) := dk_43 (dk_at dksL_law_7 2 rfl rfl)
theorem dL_law_335 : decode cL_law 335 = .ok (.invokevirtual 28, 3) := dk_182 0 28 (dk_at dksL_law_7 3 rfl rfl)
theorem dL_law_338 : decode cL_law 338 = .ok (.aload_n 2, 1) := dk_44 (dk_at dksL_law_7 6 rfl rfl)
theorem dL_law_339 : decode cL_law 339 = .ok (.invokevirtual 32, 3) := dk_182 0 32 (dk_at dksL_law_7 7 rfl rfl)
theorem dL_law_342 : decode cL_law 342 = .ok (.if_icmp .eq 1612, 3) := dk_159 6 76 (dk_at dksL_law_7 10 rfl rfl)
theorem dL_law_345 : decode cL_law 345 = .ok (.iconst 0, 1) := dk_3 (dk_at dksL_law_7 13 rfl rfl)
theorem dL_law_346 : decode cL_law 346 = .ok (.ireturn, 1) := dk_172 (dk_at dksL_law_7 14 rfl rfl)
theorem dL_law_347 : decode cL_law 347 = .ok (.aload_n 1, 1) := dk_43 (dk_at dksL_law_7 15 rfl rfl)
theorem dL_law_348 : decode cL_law 348 = .ok (.invokevirtual 33, 3) := dk_182 0 33 (dk_at dksL_law_7 16 rfl rfl)
theorem dL_law_351 : decode cL_law 351 = .ok (.aload_n 2, 1) := dk_44 (dk_at dksL_law_7 19 rfl rfl)
theorem dL_law_352 : decode cL_law 352 = .ok (.invokevirtual 36, 3) := dk_182 0 36 (dk_at dksL_law_7 20 rfl rfl)
theorem dL_law_355 : decode cL_law 355 = .ok (.if_icmp .eq 1599, 3) := dk_159 6 63 (dk_at dksL_law_8 0 rfl rfl)
theorem dL_law_358 : decode cL_law 358 = .ok (.iconst 0, 1) := dk_3 (dk_at dksL_law_8 3 rfl rfl)
theorem dL_law_359 : decode cL_law 359 = .ok (.ireturn, 1) := dk_172 (dk_at dksL_law_8 4 rfl rfl)
theorem dL_law_360 : decode cL_law 360 = .ok (.aload_n 1, 1) := dk_43 (dk_at dksL_law_8 5 rfl rfl)
theorem dL_law_361 : decode cL_law 361 = .ok (.aload_n 0, 1) := dk_42 (dk_at dksL_law_8 6 rfl rfl)
theorem dL_law_362 : decode cL_law 362 = .ok (.iload 4, 2) := dk_21 4 (dk_at dksL_law_8 7 rfl rfl)
theorem dL_law_364 : decode cL_law 364 = .ok (.iconst 1, 1) := dk_4 (dk_at dksL_law_8 9 rfl rfl)
theorem dL_law_365 : decode cL_law 365 = .ok (.iadd, 1) := dk_96 (dk_at dksL_law_8 10 rfl rfl)
theorem dL_law_366 : decode cL_law 366 = .ok (.iaload, 1) := dk_46 (dk_at dksL_law_8 11 rfl rfl)
theorem dL_law_367 : decode cL_law 367 = .ok (.invokevirtual 37, 3) := dk_182 0 37 (dk_at dksL_law_8 12 rfl rfl)
theorem dL_law_370 : decode cL_law 370 = .ok (.aload_n 2, 1) := dk_44 (dk_at dksL_law_8 15 rfl rfl)
theorem dL_law_371 : decode cL_law 371 = .ok (.aload_n 0, 1) := dk_42 (dk_at dksL_law_8 16 rfl rfl)
theorem dL_law_372 : decode cL_law 372 = .ok (.iload 4, 2) := dk_21 4 (dk_at dksL_law_8 17 rfl rfl)
theorem dL_law_374 : decode cL_law 374 = .ok (.iconst 1, 1) := dk_4 (dk_at dksL_law_8 19 rfl rfl)
theorem dL_law_375 : decode cL_law 375 = .ok (.iadd, 1) := dk_96 (dk_at dksL_law_8 20 rfl rfl)
theorem dL_law_376 : decode cL_law 376 = .ok (.iaload, 1) := dk_46 (dk_at dksL_law_8 21 rfl rfl)
theorem dL_law_377 : decode cL_law 377 = .ok (.invokevirtual 40, 3) := dk_182 0 40 (dk_at dksL_law_9 0 rfl rfl)
theorem dL_law_380 : decode cL_law 380 = .ok (.if_icmp .eq 1574, 3) := dk_159 6 38 (dk_at dksL_law_9 3 rfl rfl)
theorem dL_law_383 : decode cL_law 383 = .ok (.iconst 0, 1) := dk_3 (dk_at dksL_law_9 6 rfl rfl)
theorem dL_law_384 : decode cL_law 384 = .ok (.ireturn, 1) := dk_172 (dk_at dksL_law_9 7 rfl rfl)
theorem dL_law_385 : decode cL_law 385 = .ok (.aload_n 1, 1) := dk_43 (dk_at dksL_law_9 8 rfl rfl)
theorem dL_law_386 : decode cL_law 386 = .ok (.aload_n 0, 1) := dk_42 (dk_at dksL_law_9 9 rfl rfl)
theorem dL_law_387 : decode cL_law 387 = .ok (.iload 4, 2) := dk_21 4 (dk_at dksL_law_9 10 rfl rfl)
theorem dL_law_389 : decode cL_law 389 = .ok (.iconst 1, 1) := dk_4 (dk_at dksL_law_9 12 rfl rfl)
theorem dL_law_390 : decode cL_law 390 = .ok (.iadd, 1) := dk_96 (dk_at dksL_law_9 13 rfl rfl)
theorem dL_law_391 : decode cL_law 391 = .ok (.iaload, 1) := dk_46 (dk_at dksL_law_9 14 rfl rfl)
theorem dL_law_392 : decode cL_law 392 = .ok (.aload_n 0, 1) := dk_42 (dk_at dksL_law_9 15 rfl rfl)
theorem dL_law_393 : decode cL_law 393 = .ok (.iload 4, 2) := dk_21 4 (dk_at dksL_law_9 16 rfl rfl)
theorem dL_law_395 : decode cL_law 395 = .ok (.iconst 2, 1) := dk_5 (dk_at dksL_law_9 18 rfl rfl)
theorem dL_law_396 : decode cL_law 396 = .ok (.iadd, 1) := dk_96 (dk_at dksL_law_9 19 rfl rfl)
theorem dL_law_397 : decode cL_law 397 = .ok (.iaload, 1) := dk_46 (dk_at dksL_law_9 20 rfl rfl)
theorem dL_law_398 : decode cL_law 398 = .ok (.aload_n 0, 1) := dk_42 (dk_at dksL_law_9 21 rfl rfl)
theorem dL_law_399 : decode cL_law 399 = .ok (.iload 4, 2) := dk_21 4 (dk_at dksL_law_9 22 rfl rfl)
theorem dL_law_401 : decode cL_law 401 = .ok (.iconst 3, 1) := dk_6 (dk_at dksL_law_10 0 rfl rfl)
theorem dL_law_402 : decode cL_law 402 = .ok (.iadd, 1) := dk_96 (dk_at dksL_law_10 1 rfl rfl)
theorem dL_law_403 : decode cL_law 403 = .ok (.iaload, 1) := dk_46 (dk_at dksL_law_10 2 rfl rfl)
theorem dL_law_404 : decode cL_law 404 = .ok (.invokevirtual 41, 3) := dk_182 0 41 (dk_at dksL_law_10 3 rfl rfl)
theorem dL_law_407 : decode cL_law 407 = .ok (.aload_n 2, 1) := dk_44 (dk_at dksL_law_10 6 rfl rfl)
theorem dL_law_408 : decode cL_law 408 = .ok (.aload_n 0, 1) := dk_42 (dk_at dksL_law_10 7 rfl rfl)
theorem dL_law_409 : decode cL_law 409 = .ok (.iload 4, 2) := dk_21 4 (dk_at dksL_law_10 8 rfl rfl)
theorem dL_law_411 : decode cL_law 411 = .ok (.iconst 1, 1) := dk_4 (dk_at dksL_law_10 10 rfl rfl)
theorem dL_law_412 : decode cL_law 412 = .ok (.iadd, 1) := dk_96 (dk_at dksL_law_10 11 rfl rfl)
theorem dL_law_413 : decode cL_law 413 = .ok (.iaload, 1) := dk_46 (dk_at dksL_law_10 12 rfl rfl)
theorem dL_law_414 : decode cL_law 414 = .ok (.aload_n 0, 1) := dk_42 (dk_at dksL_law_10 13 rfl rfl)
theorem dL_law_415 : decode cL_law 415 = .ok (.iload 4, 2) := dk_21 4 (dk_at dksL_law_10 14 rfl rfl)
theorem dL_law_417 : decode cL_law 417 = .ok (.iconst 2, 1) := dk_5 (dk_at dksL_law_10 16 rfl rfl)
theorem dL_law_418 : decode cL_law 418 = .ok (.iadd, 1) := dk_96 (dk_at dksL_law_10 17 rfl rfl)
theorem dL_law_419 : decode cL_law 419 = .ok (.iaload, 1) := dk_46 (dk_at dksL_law_10 18 rfl rfl)
theorem dL_law_420 : decode cL_law 420 = .ok (.aload_n 0, 1) := dk_42 (dk_at dksL_law_10 19 rfl rfl)
theorem dL_law_421 : decode cL_law 421 = .ok (.iload 4, 2) := dk_21 4 (dk_at dksL_law_10 20 rfl rfl)
theorem dL_law_423 : decode cL_law 423 = .ok (.iconst 3, 1) := dk_6 (dk_at dksL_law_10 22 rfl rfl)
theorem dL_law_424 : decode cL_law 424 = .ok (.iadd, 1) := dk_96 (dk_at dksL_law_10 23 rfl rfl)
theorem dL_law_425 : decode cL_law 425 = .ok (.iaload, 1) := dk_46 (dk_at dksL_law_11 0 rfl rfl)
theorem dL_law_426 : decode cL_law 426 = .ok (.invokevirtual 45, 3) := dk_182 0 45 (dk_at dksL_law_11 1 rfl rfl)
theorem dL_law_429 : decode cL_law 429 = .ok (.if_icmp .eq 1525, 3) := dk_159 5 245 (dk_at dksL_law_11 4 rfl rfl)
theorem dL_law_432 : decode cL_law 432 = .ok (.iconst 0, 1) := dk_3 (dk_at dksL_law_11 7 rfl rfl)
theorem dL_law_433 : decode cL_law 433 = .ok (.ireturn, 1) := dk_172 (dk_at dksL_law_11 8 rfl rfl)
theorem dL_law_434 : decode cL_law 434 = .ok (.aload_n 1, 1) := dk_43 (dk_at dksL_law_11 9 rfl rfl)
theorem dL_law_435 : decode cL_law 435 = .ok (.aload_n 0, 1) := dk_42 (dk_at dksL_law_11 10 rfl rfl)
theorem dL_law_436 : decode cL_law 436 = .ok (.iload 4, 2) := dk_21 4 (dk_at dksL_law_11 11 rfl rfl)
theorem dL_law_438 : decode cL_law 438 = .ok (.iconst 1, 1) := dk_4 (dk_at dksL_law_11 13 rfl rfl)
theorem dL_law_439 : decode cL_law 439 = .ok (.iadd, 1) := dk_96 (dk_at dksL_law_11 14 rfl rfl)
theorem dL_law_440 : decode cL_law 440 = .ok (.iaload, 1) := dk_46 (dk_at dksL_law_11 15 rfl rfl)
theorem dL_law_441 : decode cL_law 441 = .ok (.aload_n 0, 1) := dk_42 (dk_at dksL_law_11 16 rfl rfl)
theorem dL_law_442 : decode cL_law 442 = .ok (.iload 4, 2) := dk_21 4 (dk_at dksL_law_11 17 rfl rfl)
theorem dL_law_444 : decode cL_law 444 = .ok (.iconst 2, 1) := dk_5 (dk_at dksL_law_11 19 rfl rfl)
theorem dL_law_445 : decode cL_law 445 = .ok (.iadd, 1) := dk_96 (dk_at dksL_law_11 20 rfl rfl)
theorem dL_law_446 : decode cL_law 446 = .ok (.iaload, 1) := dk_46 (dk_at dksL_law_11 21 rfl rfl)
theorem dL_law_447 : decode cL_law 447 = .ok (.aload_n 0, 1) := dk_42 (dk_at dksL_law_11 22 rfl rfl)
theorem dL_law_448 : decode cL_law 448 = .ok (.iload 4, 2) := dk_21 4 (dk_at dksL_law_12 0 rfl rfl)
theorem dL_law_450 : decode cL_law 450 = .ok (.iconst 3, 1) := dk_6 (dk_at dksL_law_12 2 rfl rfl)
theorem dL_law_451 : decode cL_law 451 = .ok (.iadd, 1) := dk_96 (dk_at dksL_law_12 3 rfl rfl)
theorem dL_law_452 : decode cL_law 452 = .ok (.iaload, 1) := dk_46 (dk_at dksL_law_12 4 rfl rfl)
theorem dL_law_453 : decode cL_law 453 = .ok (.aload_n 0, 1) := dk_42 (dk_at dksL_law_12 5 rfl rfl)
theorem dL_law_454 : decode cL_law 454 = .ok (.iload 4, 2) := dk_21 4 (dk_at dksL_law_12 6 rfl rfl)
theorem dL_law_456 : decode cL_law 456 = .ok (.iconst 4, 1) := dk_7 (dk_at dksL_law_12 8 rfl rfl)
theorem dL_law_457 : decode cL_law 457 = .ok (.iadd, 1) := dk_96 (dk_at dksL_law_12 9 rfl rfl)
theorem dL_law_458 : decode cL_law 458 = .ok (.iaload, 1) := dk_46 (dk_at dksL_law_12 10 rfl rfl)
theorem dL_law_459 : decode cL_law 459 = .ok (.aload_n 0, 1) := dk_42 (dk_at dksL_law_12 11 rfl rfl)
theorem dL_law_460 : decode cL_law 460 = .ok (.iload 4, 2) := dk_21 4 (dk_at dksL_law_12 12 rfl rfl)
theorem dL_law_462 : decode cL_law 462 = .ok (.iconst 5, 1) := dk_8 (dk_at dksL_law_12 14 rfl rfl)
theorem dL_law_463 : decode cL_law 463 = .ok (.iadd, 1) := dk_96 (dk_at dksL_law_12 15 rfl rfl)
theorem dL_law_464 : decode cL_law 464 = .ok (.iaload, 1) := dk_46 (dk_at dksL_law_12 16 rfl rfl)
theorem dL_law_465 : decode cL_law 465 = .ok (.invokevirtual 46, 3) := dk_182 0 46 (dk_at dksL_law_12 17 rfl rfl)
theorem dL_law_468 : decode cL_law 468 = .ok (.aload_n 2, 1) := dk_44 (dk_at dksL_law_12 20 rfl rfl)
theorem dL_law_469 : decode cL_law 469 = .ok (.aload_n 0, 1) := dk_42 (dk_at dksL_law_12 21 rfl rfl)
theorem dL_law_470 : decode cL_law 470 = .ok (.iload 4, 2) := dk_21 4 (dk_at dksL_law_12 22 rfl rfl)
theorem dL_law_472 : decode cL_law 472 = .ok (.iconst 1, 1) := dk_4 (dk_at dksL_law_13 0 rfl rfl)
theorem dL_law_473 : decode cL_law 473 = .ok (.iadd, 1) := dk_96 (dk_at dksL_law_13 1 rfl rfl)
theorem dL_law_474 : decode cL_law 474 = .ok (.iaload, 1) := dk_46 (dk_at dksL_law_13 2 rfl rfl)
theorem dL_law_475 : decode cL_law 475 = .ok (.aload_n 0, 1) := dk_42 (dk_at dksL_law_13 3 rfl rfl)
theorem dL_law_476 : decode cL_law 476 = .ok (.iload 4, 2) := dk_21 4 (dk_at dksL_law_13 4 rfl rfl)
theorem dL_law_478 : decode cL_law 478 = .ok (.iconst 2, 1) := dk_5 (dk_at dksL_law_13 6 rfl rfl)
theorem dL_law_479 : decode cL_law 479 = .ok (.iadd, 1) := dk_96 (dk_at dksL_law_13 7 rfl rfl)
theorem dL_law_480 : decode cL_law 480 = .ok (.iaload, 1) := dk_46 (dk_at dksL_law_13 8 rfl rfl)
theorem dL_law_481 : decode cL_law 481 = .ok (.aload_n 0, 1) := dk_42 (dk_at dksL_law_13 9 rfl rfl)
theorem dL_law_482 : decode cL_law 482 = .ok (.iload 4, 2) := dk_21 4 (dk_at dksL_law_13 10 rfl rfl)
theorem dL_law_484 : decode cL_law 484 = .ok (.iconst 3, 1) := dk_6 (dk_at dksL_law_13 12 rfl rfl)
theorem dL_law_485 : decode cL_law 485 = .ok (.iadd, 1) := dk_96 (dk_at dksL_law_13 13 rfl rfl)
theorem dL_law_486 : decode cL_law 486 = .ok (.iaload, 1) := dk_46 (dk_at dksL_law_13 14 rfl rfl)
theorem dL_law_487 : decode cL_law 487 = .ok (.aload_n 0, 1) := dk_42 (dk_at dksL_law_13 15 rfl rfl)
theorem dL_law_488 : decode cL_law 488 = .ok (.iload 4, 2) := dk_21 4 (dk_at dksL_law_13 16 rfl rfl)
theorem dL_law_490 : decode cL_law 490 = .ok (.iconst 4, 1) := dk_7 (dk_at dksL_law_13 18 rfl rfl)
theorem dL_law_491 : decode cL_law 491 = .ok (.iadd, 1) := dk_96 (dk_at dksL_law_13 19 rfl rfl)
theorem dL_law_492 : decode cL_law 492 = .ok (.iaload, 1) := dk_46 (dk_at dksL_law_13 20 rfl rfl)
theorem dL_law_493 : decode cL_law 493 = .ok (.aload_n 0, 1) := dk_42 (dk_at dksL_law_13 21 rfl rfl)
theorem dL_law_494 : decode cL_law 494 = .ok (.iload 4, 2) := dk_21 4 (dk_at dksL_law_13 22 rfl rfl)
theorem dL_law_496 : decode cL_law 496 = .ok (.iconst 5, 1) := dk_8 (dk_at dksL_law_14 0 rfl rfl)
theorem dL_law_497 : decode cL_law 497 = .ok (.iadd, 1) := dk_96 (dk_at dksL_law_14 1 rfl rfl)
theorem dL_law_498 : decode cL_law 498 = .ok (.iaload, 1) := dk_46 (dk_at dksL_law_14 2 rfl rfl)
theorem dL_law_499 : decode cL_law 499 = .ok (.invokevirtual 49, 3) := dk_182 0 49 (dk_at dksL_law_14 3 rfl rfl)
theorem dL_law_502 : decode cL_law 502 = .ok (.if_icmp .eq 1452, 3) := dk_159 5 172 (dk_at dksL_law_14 6 rfl rfl)
theorem dL_law_505 : decode cL_law 505 = .ok (.iconst 0, 1) := dk_3 (dk_at dksL_law_14 9 rfl rfl)
theorem dL_law_506 : decode cL_law 506 = .ok (.ireturn, 1) := dk_172 (dk_at dksL_law_14 10 rfl rfl)
theorem dL_law_507 : decode cL_law 507 = .ok (.aload_n 1, 1) := dk_43 (dk_at dksL_law_14 11 rfl rfl)
theorem dL_law_508 : decode cL_law 508 = .ok (.aload_n 0, 1) := dk_42 (dk_at dksL_law_14 12 rfl rfl)
theorem dL_law_509 : decode cL_law 509 = .ok (.iload 4, 2) := dk_21 4 (dk_at dksL_law_14 13 rfl rfl)
theorem dL_law_511 : decode cL_law 511 = .ok (.iconst 1, 1) := dk_4 (dk_at dksL_law_14 15 rfl rfl)
theorem dL_law_512 : decode cL_law 512 = .ok (.iadd, 1) := dk_96 (dk_at dksL_law_14 16 rfl rfl)
theorem dL_law_513 : decode cL_law 513 = .ok (.iaload, 1) := dk_46 (dk_at dksL_law_14 17 rfl rfl)
theorem dL_law_514 : decode cL_law 514 = .ok (.aload_n 0, 1) := dk_42 (dk_at dksL_law_14 18 rfl rfl)
theorem dL_law_515 : decode cL_law 515 = .ok (.iload 4, 2) := dk_21 4 (dk_at dksL_law_14 19 rfl rfl)
theorem dL_law_517 : decode cL_law 517 = .ok (.iconst 2, 1) := dk_5 (dk_at dksL_law_14 21 rfl rfl)
theorem dL_law_518 : decode cL_law 518 = .ok (.iadd, 1) := dk_96 (dk_at dksL_law_14 22 rfl rfl)
theorem dL_law_519 : decode cL_law 519 = .ok (.iaload, 1) := dk_46 (dk_at dksL_law_14 23 rfl rfl)
theorem dL_law_520 : decode cL_law 520 = .ok (.aload_n 0, 1) := dk_42 (dk_at dksL_law_15 0 rfl rfl)
theorem dL_law_521 : decode cL_law 521 = .ok (.iload 4, 2) := dk_21 4 (dk_at dksL_law_15 1 rfl rfl)
theorem dL_law_523 : decode cL_law 523 = .ok (.iconst 3, 1) := dk_6 (dk_at dksL_law_15 3 rfl rfl)
theorem dL_law_524 : decode cL_law 524 = .ok (.iadd, 1) := dk_96 (dk_at dksL_law_15 4 rfl rfl)
theorem dL_law_525 : decode cL_law 525 = .ok (.iaload, 1) := dk_46 (dk_at dksL_law_15 5 rfl rfl)
theorem dL_law_526 : decode cL_law 526 = .ok (.aload_n 0, 1) := dk_42 (dk_at dksL_law_15 6 rfl rfl)
theorem dL_law_527 : decode cL_law 527 = .ok (.iload 4, 2) := dk_21 4 (dk_at dksL_law_15 7 rfl rfl)
theorem dL_law_529 : decode cL_law 529 = .ok (.iconst 4, 1) := dk_7 (dk_at dksL_law_15 9 rfl rfl)
theorem dL_law_530 : decode cL_law 530 = .ok (.iadd, 1) := dk_96 (dk_at dksL_law_15 10 rfl rfl)
theorem dL_law_531 : decode cL_law 531 = .ok (.iaload, 1) := dk_46 (dk_at dksL_law_15 11 rfl rfl)
theorem dL_law_532 : decode cL_law 532 = .ok (.invokevirtual 50, 3) := dk_182 0 50 (dk_at dksL_law_15 12 rfl rfl)
theorem dL_law_535 : decode cL_law 535 = .ok (.aload_n 2, 1) := dk_44 (dk_at dksL_law_15 15 rfl rfl)
theorem dL_law_536 : decode cL_law 536 = .ok (.aload_n 0, 1) := dk_42 (dk_at dksL_law_15 16 rfl rfl)
theorem dL_law_537 : decode cL_law 537 = .ok (.iload 4, 2) := dk_21 4 (dk_at dksL_law_15 17 rfl rfl)
theorem dL_law_539 : decode cL_law 539 = .ok (.iconst 1, 1) := dk_4 (dk_at dksL_law_15 19 rfl rfl)
theorem dL_law_540 : decode cL_law 540 = .ok (.iadd, 1) := dk_96 (dk_at dksL_law_15 20 rfl rfl)
theorem dL_law_541 : decode cL_law 541 = .ok (.iaload, 1) := dk_46 (dk_at dksL_law_15 21 rfl rfl)
theorem dL_law_542 : decode cL_law 542 = .ok (.aload_n 0, 1) := dk_42 (dk_at dksL_law_15 22 rfl rfl)
theorem dL_law_543 : decode cL_law 543 = .ok (.iload 4, 2) := dk_21 4 (dk_at dksL_law_16 0 rfl rfl)
theorem dL_law_545 : decode cL_law 545 = .ok (.iconst 2, 1) := dk_5 (dk_at dksL_law_16 2 rfl rfl)
theorem dL_law_546 : decode cL_law 546 = .ok (.iadd, 1) := dk_96 (dk_at dksL_law_16 3 rfl rfl)
theorem dL_law_547 : decode cL_law 547 = .ok (.iaload, 1) := dk_46 (dk_at dksL_law_16 4 rfl rfl)
theorem dL_law_548 : decode cL_law 548 = .ok (.aload_n 0, 1) := dk_42 (dk_at dksL_law_16 5 rfl rfl)
theorem dL_law_549 : decode cL_law 549 = .ok (.iload 4, 2) := dk_21 4 (dk_at dksL_law_16 6 rfl rfl)
theorem dL_law_551 : decode cL_law 551 = .ok (.iconst 3, 1) := dk_6 (dk_at dksL_law_16 8 rfl rfl)
theorem dL_law_552 : decode cL_law 552 = .ok (.iadd, 1) := dk_96 (dk_at dksL_law_16 9 rfl rfl)
theorem dL_law_553 : decode cL_law 553 = .ok (.iaload, 1) := dk_46 (dk_at dksL_law_16 10 rfl rfl)
theorem dL_law_554 : decode cL_law 554 = .ok (.aload_n 0, 1) := dk_42 (dk_at dksL_law_16 11 rfl rfl)
theorem dL_law_555 : decode cL_law 555 = .ok (.iload 4, 2) := dk_21 4 (dk_at dksL_law_16 12 rfl rfl)
theorem dL_law_557 : decode cL_law 557 = .ok (.iconst 4, 1) := dk_7 (dk_at dksL_law_16 14 rfl rfl)
theorem dL_law_558 : decode cL_law 558 = .ok (.iadd, 1) := dk_96 (dk_at dksL_law_16 15 rfl rfl)
theorem dL_law_559 : decode cL_law 559 = .ok (.iaload, 1) := dk_46 (dk_at dksL_law_16 16 rfl rfl)
theorem dL_law_560 : decode cL_law 560 = .ok (.invokevirtual 54, 3) := dk_182 0 54 (dk_at dksL_law_16 17 rfl rfl)
theorem dL_law_563 : decode cL_law 563 = .ok (.if_icmp .eq 1391, 3) := dk_159 5 111 (dk_at dksL_law_16 20 rfl rfl)
theorem dL_law_566 : decode cL_law 566 = .ok (.iconst 0, 1) := dk_3 (dk_at dksL_law_16 23 rfl rfl)
theorem dL_law_567 : decode cL_law 567 = .ok (.ireturn, 1) := dk_172 (dk_at dksL_law_17 0 rfl rfl)
theorem dL_law_568 : decode cL_law 568 = .ok (.aload_n 1, 1) := dk_43 (dk_at dksL_law_17 1 rfl rfl)
theorem dL_law_569 : decode cL_law 569 = .ok (.aload_n 0, 1) := dk_42 (dk_at dksL_law_17 2 rfl rfl)
theorem dL_law_570 : decode cL_law 570 = .ok (.iload 4, 2) := dk_21 4 (dk_at dksL_law_17 3 rfl rfl)
theorem dL_law_572 : decode cL_law 572 = .ok (.iconst 1, 1) := dk_4 (dk_at dksL_law_17 5 rfl rfl)
theorem dL_law_573 : decode cL_law 573 = .ok (.iadd, 1) := dk_96 (dk_at dksL_law_17 6 rfl rfl)
theorem dL_law_574 : decode cL_law 574 = .ok (.iaload, 1) := dk_46 (dk_at dksL_law_17 7 rfl rfl)
theorem dL_law_575 : decode cL_law 575 = .ok (.aload_n 0, 1) := dk_42 (dk_at dksL_law_17 8 rfl rfl)
theorem dL_law_576 : decode cL_law 576 = .ok (.iload 4, 2) := dk_21 4 (dk_at dksL_law_17 9 rfl rfl)
theorem dL_law_578 : decode cL_law 578 = .ok (.iconst 2, 1) := dk_5 (dk_at dksL_law_17 11 rfl rfl)
theorem dL_law_579 : decode cL_law 579 = .ok (.iadd, 1) := dk_96 (dk_at dksL_law_17 12 rfl rfl)
theorem dL_law_580 : decode cL_law 580 = .ok (.iaload, 1) := dk_46 (dk_at dksL_law_17 13 rfl rfl)
theorem dL_law_581 : decode cL_law 581 = .ok (.aload_n 0, 1) := dk_42 (dk_at dksL_law_17 14 rfl rfl)
theorem dL_law_582 : decode cL_law 582 = .ok (.iload 4, 2) := dk_21 4 (dk_at dksL_law_17 15 rfl rfl)
theorem dL_law_584 : decode cL_law 584 = .ok (.iconst 3, 1) := dk_6 (dk_at dksL_law_17 17 rfl rfl)
theorem dL_law_585 : decode cL_law 585 = .ok (.iadd, 1) := dk_96 (dk_at dksL_law_17 18 rfl rfl)
theorem dL_law_586 : decode cL_law 586 = .ok (.iaload, 1) := dk_46 (dk_at dksL_law_17 19 rfl rfl)
theorem dL_law_587 : decode cL_law 587 = .ok (.aload_n 0, 1) := dk_42 (dk_at dksL_law_17 20 rfl rfl)
theorem dL_law_588 : decode cL_law 588 = .ok (.iload 4, 2) := dk_21 4 (dk_at dksL_law_17 21 rfl rfl)
theorem dL_law_590 : decode cL_law 590 = .ok (.iconst 4, 1) := dk_7 (dk_at dksL_law_17 23 rfl rfl)
theorem dL_law_591 : decode cL_law 591 = .ok (.iadd, 1) := dk_96 (dk_at dksL_law_18 0 rfl rfl)
theorem dL_law_592 : decode cL_law 592 = .ok (.iaload, 1) := dk_46 (dk_at dksL_law_18 1 rfl rfl)
theorem dL_law_593 : decode cL_law 593 = .ok (.invokevirtual 55, 3) := dk_182 0 55 (dk_at dksL_law_18 2 rfl rfl)
theorem dL_law_596 : decode cL_law 596 = .ok (.aload_n 2, 1) := dk_44 (dk_at dksL_law_18 5 rfl rfl)
theorem dL_law_597 : decode cL_law 597 = .ok (.aload_n 0, 1) := dk_42 (dk_at dksL_law_18 6 rfl rfl)
theorem dL_law_598 : decode cL_law 598 = .ok (.iload 4, 2) := dk_21 4 (dk_at dksL_law_18 7 rfl rfl)
theorem dL_law_600 : decode cL_law 600 = .ok (.iconst 1, 1) := dk_4 (dk_at dksL_law_18 9 rfl rfl)
theorem dL_law_601 : decode cL_law 601 = .ok (.iadd, 1) := dk_96 (dk_at dksL_law_18 10 rfl rfl)
theorem dL_law_602 : decode cL_law 602 = .ok (.iaload, 1) := dk_46 (dk_at dksL_law_18 11 rfl rfl)
theorem dL_law_603 : decode cL_law 603 = .ok (.aload_n 0, 1) := dk_42 (dk_at dksL_law_18 12 rfl rfl)
theorem dL_law_604 : decode cL_law 604 = .ok (.iload 4, 2) := dk_21 4 (dk_at dksL_law_18 13 rfl rfl)
theorem dL_law_606 : decode cL_law 606 = .ok (.iconst 2, 1) := dk_5 (dk_at dksL_law_18 15 rfl rfl)
theorem dL_law_607 : decode cL_law 607 = .ok (.iadd, 1) := dk_96 (dk_at dksL_law_18 16 rfl rfl)
theorem dL_law_608 : decode cL_law 608 = .ok (.iaload, 1) := dk_46 (dk_at dksL_law_18 17 rfl rfl)
theorem dL_law_609 : decode cL_law 609 = .ok (.aload_n 0, 1) := dk_42 (dk_at dksL_law_18 18 rfl rfl)
theorem dL_law_610 : decode cL_law 610 = .ok (.iload 4, 2) := dk_21 4 (dk_at dksL_law_18 19 rfl rfl)
theorem dL_law_612 : decode cL_law 612 = .ok (.iconst 3, 1) := dk_6 (dk_at dksL_law_18 21 rfl rfl)
theorem dL_law_613 : decode cL_law 613 = .ok (.iadd, 1) := dk_96 (dk_at dksL_law_18 22 rfl rfl)
theorem dL_law_614 : decode cL_law 614 = .ok (.iaload, 1) := dk_46 (dk_at dksL_law_18 23 rfl rfl)
theorem dL_law_615 : decode cL_law 615 = .ok (.aload_n 0, 1) := dk_42 (dk_at dksL_law_19 0 rfl rfl)
theorem dL_law_616 : decode cL_law 616 = .ok (.iload 4, 2) := dk_21 4 (dk_at dksL_law_19 1 rfl rfl)
theorem dL_law_618 : decode cL_law 618 = .ok (.iconst 4, 1) := dk_7 (dk_at dksL_law_19 3 rfl rfl)
theorem dL_law_619 : decode cL_law 619 = .ok (.iadd, 1) := dk_96 (dk_at dksL_law_19 4 rfl rfl)
theorem dL_law_620 : decode cL_law 620 = .ok (.iaload, 1) := dk_46 (dk_at dksL_law_19 5 rfl rfl)
theorem dL_law_621 : decode cL_law 621 = .ok (.invokevirtual 58, 3) := dk_182 0 58 (dk_at dksL_law_19 6 rfl rfl)
theorem dL_law_624 : decode cL_law 624 = .ok (.if_icmp .eq 1330, 3) := dk_159 5 50 (dk_at dksL_law_19 9 rfl rfl)
theorem dL_law_627 : decode cL_law 627 = .ok (.iconst 0, 1) := dk_3 (dk_at dksL_law_19 12 rfl rfl)
theorem dL_law_628 : decode cL_law 628 = .ok (.ireturn, 1) := dk_172 (dk_at dksL_law_19 13 rfl rfl)
theorem dL_law_629 : decode cL_law 629 = .ok (.aload_n 1, 1) := dk_43 (dk_at dksL_law_19 14 rfl rfl)
theorem dL_law_630 : decode cL_law 630 = .ok (.aload_n 0, 1) := dk_42 (dk_at dksL_law_19 15 rfl rfl)
theorem dL_law_631 : decode cL_law 631 = .ok (.iload 4, 2) := dk_21 4 (dk_at dksL_law_19 16 rfl rfl)
theorem dL_law_633 : decode cL_law 633 = .ok (.iconst 1, 1) := dk_4 (dk_at dksL_law_19 18 rfl rfl)
theorem dL_law_634 : decode cL_law 634 = .ok (.iadd, 1) := dk_96 (dk_at dksL_law_19 19 rfl rfl)
theorem dL_law_635 : decode cL_law 635 = .ok (.iaload, 1) := dk_46 (dk_at dksL_law_19 20 rfl rfl)
theorem dL_law_636 : decode cL_law 636 = .ok (.aload_n 0, 1) := dk_42 (dk_at dksL_law_19 21 rfl rfl)
theorem dL_law_637 : decode cL_law 637 = .ok (.iload 4, 2) := dk_21 4 (dk_at dksL_law_19 22 rfl rfl)
theorem dL_law_639 : decode cL_law 639 = .ok (.iconst 2, 1) := dk_5 (dk_at dksL_law_20 0 rfl rfl)
theorem dL_law_640 : decode cL_law 640 = .ok (.iadd, 1) := dk_96 (dk_at dksL_law_20 1 rfl rfl)
theorem dL_law_641 : decode cL_law 641 = .ok (.iaload, 1) := dk_46 (dk_at dksL_law_20 2 rfl rfl)
theorem dL_law_642 : decode cL_law 642 = .ok (.aload_n 0, 1) := dk_42 (dk_at dksL_law_20 3 rfl rfl)
theorem dL_law_643 : decode cL_law 643 = .ok (.iload 4, 2) := dk_21 4 (dk_at dksL_law_20 4 rfl rfl)
theorem dL_law_645 : decode cL_law 645 = .ok (.iconst 3, 1) := dk_6 (dk_at dksL_law_20 6 rfl rfl)
theorem dL_law_646 : decode cL_law 646 = .ok (.iadd, 1) := dk_96 (dk_at dksL_law_20 7 rfl rfl)
theorem dL_law_647 : decode cL_law 647 = .ok (.iaload, 1) := dk_46 (dk_at dksL_law_20 8 rfl rfl)
theorem dL_law_648 : decode cL_law 648 = .ok (.aload_n 0, 1) := dk_42 (dk_at dksL_law_20 9 rfl rfl)
theorem dL_law_649 : decode cL_law 649 = .ok (.iload 4, 2) := dk_21 4 (dk_at dksL_law_20 10 rfl rfl)
theorem dL_law_651 : decode cL_law 651 = .ok (.iconst 4, 1) := dk_7 (dk_at dksL_law_20 12 rfl rfl)
theorem dL_law_652 : decode cL_law 652 = .ok (.iadd, 1) := dk_96 (dk_at dksL_law_20 13 rfl rfl)
theorem dL_law_653 : decode cL_law 653 = .ok (.iaload, 1) := dk_46 (dk_at dksL_law_20 14 rfl rfl)
theorem dL_law_654 : decode cL_law 654 = .ok (.invokevirtual 59, 3) := dk_182 0 59 (dk_at dksL_law_20 15 rfl rfl)
theorem dL_law_657 : decode cL_law 657 = .ok (.aload_n 2, 1) := dk_44 (dk_at dksL_law_20 18 rfl rfl)
theorem dL_law_658 : decode cL_law 658 = .ok (.aload_n 0, 1) := dk_42 (dk_at dksL_law_20 19 rfl rfl)
theorem dL_law_659 : decode cL_law 659 = .ok (.iload 4, 2) := dk_21 4 (dk_at dksL_law_20 20 rfl rfl)
theorem dL_law_661 : decode cL_law 661 = .ok (.iconst 1, 1) := dk_4 (dk_at dksL_law_20 22 rfl rfl)
theorem dL_law_662 : decode cL_law 662 = .ok (.iadd, 1) := dk_96 (dk_at dksL_law_20 23 rfl rfl)
theorem dL_law_663 : decode cL_law 663 = .ok (.iaload, 1) := dk_46 (dk_at dksL_law_21 0 rfl rfl)
theorem dL_law_664 : decode cL_law 664 = .ok (.aload_n 0, 1) := dk_42 (dk_at dksL_law_21 1 rfl rfl)
theorem dL_law_665 : decode cL_law 665 = .ok (.iload 4, 2) := dk_21 4 (dk_at dksL_law_21 2 rfl rfl)
theorem dL_law_667 : decode cL_law 667 = .ok (.iconst 2, 1) := dk_5 (dk_at dksL_law_21 4 rfl rfl)
theorem dL_law_668 : decode cL_law 668 = .ok (.iadd, 1) := dk_96 (dk_at dksL_law_21 5 rfl rfl)
theorem dL_law_669 : decode cL_law 669 = .ok (.iaload, 1) := dk_46 (dk_at dksL_law_21 6 rfl rfl)
theorem dL_law_670 : decode cL_law 670 = .ok (.aload_n 0, 1) := dk_42 (dk_at dksL_law_21 7 rfl rfl)
theorem dL_law_671 : decode cL_law 671 = .ok (.iload 4, 2) := dk_21 4 (dk_at dksL_law_21 8 rfl rfl)
theorem dL_law_673 : decode cL_law 673 = .ok (.iconst 3, 1) := dk_6 (dk_at dksL_law_21 10 rfl rfl)
theorem dL_law_674 : decode cL_law 674 = .ok (.iadd, 1) := dk_96 (dk_at dksL_law_21 11 rfl rfl)
theorem dL_law_675 : decode cL_law 675 = .ok (.iaload, 1) := dk_46 (dk_at dksL_law_21 12 rfl rfl)
theorem dL_law_676 : decode cL_law 676 = .ok (.aload_n 0, 1) := dk_42 (dk_at dksL_law_21 13 rfl rfl)
theorem dL_law_677 : decode cL_law 677 = .ok (.iload 4, 2) := dk_21 4 (dk_at dksL_law_21 14 rfl rfl)
theorem dL_law_679 : decode cL_law 679 = .ok (.iconst 4, 1) := dk_7 (dk_at dksL_law_21 16 rfl rfl)
theorem dL_law_680 : decode cL_law 680 = .ok (.iadd, 1) := dk_96 (dk_at dksL_law_21 17 rfl rfl)
theorem dL_law_681 : decode cL_law 681 = .ok (.iaload, 1) := dk_46 (dk_at dksL_law_21 18 rfl rfl)
theorem dL_law_682 : decode cL_law 682 = .ok (.invokevirtual 62, 3) := dk_182 0 62 (dk_at dksL_law_21 19 rfl rfl)
theorem dL_law_685 : decode cL_law 685 = .ok (.if_icmp .eq 1269, 3) := dk_159 4 245 (dk_at dksL_law_22 0 rfl rfl)
theorem dL_law_688 : decode cL_law 688 = .ok (.iconst 0, 1) := dk_3 (dk_at dksL_law_22 3 rfl rfl)
theorem dL_law_689 : decode cL_law 689 = .ok (.ireturn, 1) := dk_172 (dk_at dksL_law_22 4 rfl rfl)
theorem dL_law_690 : decode cL_law 690 = .ok (.aload_n 1, 1) := dk_43 (dk_at dksL_law_22 5 rfl rfl)
theorem dL_law_691 : decode cL_law 691 = .ok (.aload_n 0, 1) := dk_42 (dk_at dksL_law_22 6 rfl rfl)
theorem dL_law_692 : decode cL_law 692 = .ok (.iload 4, 2) := dk_21 4 (dk_at dksL_law_22 7 rfl rfl)
theorem dL_law_694 : decode cL_law 694 = .ok (.iconst 1, 1) := dk_4 (dk_at dksL_law_22 9 rfl rfl)
theorem dL_law_695 : decode cL_law 695 = .ok (.iadd, 1) := dk_96 (dk_at dksL_law_22 10 rfl rfl)
theorem dL_law_696 : decode cL_law 696 = .ok (.iaload, 1) := dk_46 (dk_at dksL_law_22 11 rfl rfl)
theorem dL_law_697 : decode cL_law 697 = .ok (.aload_n 0, 1) := dk_42 (dk_at dksL_law_22 12 rfl rfl)
theorem dL_law_698 : decode cL_law 698 = .ok (.iload 4, 2) := dk_21 4 (dk_at dksL_law_22 13 rfl rfl)
theorem dL_law_700 : decode cL_law 700 = .ok (.iconst 2, 1) := dk_5 (dk_at dksL_law_22 15 rfl rfl)
theorem dL_law_701 : decode cL_law 701 = .ok (.iadd, 1) := dk_96 (dk_at dksL_law_22 16 rfl rfl)
theorem dL_law_702 : decode cL_law 702 = .ok (.iaload, 1) := dk_46 (dk_at dksL_law_22 17 rfl rfl)
theorem dL_law_703 : decode cL_law 703 = .ok (.aload_n 0, 1) := dk_42 (dk_at dksL_law_22 18 rfl rfl)
theorem dL_law_704 : decode cL_law 704 = .ok (.iload 4, 2) := dk_21 4 (dk_at dksL_law_22 19 rfl rfl)
theorem dL_law_706 : decode cL_law 706 = .ok (.iconst 3, 1) := dk_6 (dk_at dksL_law_22 21 rfl rfl)
theorem dL_law_707 : decode cL_law 707 = .ok (.iadd, 1) := dk_96 (dk_at dksL_law_22 22 rfl rfl)
theorem dL_law_708 : decode cL_law 708 = .ok (.iaload, 1) := dk_46 (dk_at dksL_law_22 23 rfl rfl)
theorem dL_law_709 : decode cL_law 709 = .ok (.aload_n 0, 1) := dk_42 (dk_at dksL_law_23 0 rfl rfl)
theorem dL_law_710 : decode cL_law 710 = .ok (.iload 4, 2) := dk_21 4 (dk_at dksL_law_23 1 rfl rfl)
theorem dL_law_712 : decode cL_law 712 = .ok (.iconst 4, 1) := dk_7 (dk_at dksL_law_23 3 rfl rfl)
theorem dL_law_713 : decode cL_law 713 = .ok (.iadd, 1) := dk_96 (dk_at dksL_law_23 4 rfl rfl)
theorem dL_law_714 : decode cL_law 714 = .ok (.iaload, 1) := dk_46 (dk_at dksL_law_23 5 rfl rfl)
theorem dL_law_715 : decode cL_law 715 = .ok (.aload_n 0, 1) := dk_42 (dk_at dksL_law_23 6 rfl rfl)
theorem dL_law_716 : decode cL_law 716 = .ok (.iload 4, 2) := dk_21 4 (dk_at dksL_law_23 7 rfl rfl)
theorem dL_law_718 : decode cL_law 718 = .ok (.iconst 5, 1) := dk_8 (dk_at dksL_law_23 9 rfl rfl)
theorem dL_law_719 : decode cL_law 719 = .ok (.iadd, 1) := dk_96 (dk_at dksL_law_23 10 rfl rfl)
theorem dL_law_720 : decode cL_law 720 = .ok (.iaload, 1) := dk_46 (dk_at dksL_law_23 11 rfl rfl)
theorem dL_law_721 : decode cL_law 721 = .ok (.aload_n 0, 1) := dk_42 (dk_at dksL_law_23 12 rfl rfl)
theorem dL_law_722 : decode cL_law 722 = .ok (.iload 4, 2) := dk_21 4 (dk_at dksL_law_23 13 rfl rfl)
theorem dL_law_724 : decode cL_law 724 = .ok (.bipush 6, 2) := dk_16 6 (dk_at dksL_law_23 15 rfl rfl)
theorem dL_law_726 : decode cL_law 726 = .ok (.iadd, 1) := dk_96 (dk_at dksL_law_23 17 rfl rfl)
theorem dL_law_727 : decode cL_law 727 = .ok (.iaload, 1) := dk_46 (dk_at dksL_law_23 18 rfl rfl)
theorem dL_law_728 : decode cL_law 728 = .ok (.invokevirtual 63, 3) := dk_182 0 63 (dk_at dksL_law_23 19 rfl rfl)
theorem dL_law_731 : decode cL_law 731 = .ok (.aload_n 2, 1) := dk_44 (dk_at dksL_law_23 22 rfl rfl)
theorem dL_law_732 : decode cL_law 732 = .ok (.aload_n 0, 1) := dk_42 (dk_at dksL_law_23 23 rfl rfl)
theorem dL_law_733 : decode cL_law 733 = .ok (.iload 4, 2) := dk_21 4 (dk_at dksL_law_24 0 rfl rfl)
theorem dL_law_735 : decode cL_law 735 = .ok (.iconst 1, 1) := dk_4 (dk_at dksL_law_24 2 rfl rfl)
theorem dL_law_736 : decode cL_law 736 = .ok (.iadd, 1) := dk_96 (dk_at dksL_law_24 3 rfl rfl)
theorem dL_law_737 : decode cL_law 737 = .ok (.iaload, 1) := dk_46 (dk_at dksL_law_24 4 rfl rfl)
theorem dL_law_738 : decode cL_law 738 = .ok (.aload_n 0, 1) := dk_42 (dk_at dksL_law_24 5 rfl rfl)
theorem dL_law_739 : decode cL_law 739 = .ok (.iload 4, 2) := dk_21 4 (dk_at dksL_law_24 6 rfl rfl)
theorem dL_law_741 : decode cL_law 741 = .ok (.iconst 2, 1) := dk_5 (dk_at dksL_law_24 8 rfl rfl)
theorem dL_law_742 : decode cL_law 742 = .ok (.iadd, 1) := dk_96 (dk_at dksL_law_24 9 rfl rfl)
theorem dL_law_743 : decode cL_law 743 = .ok (.iaload, 1) := dk_46 (dk_at dksL_law_24 10 rfl rfl)
theorem dL_law_744 : decode cL_law 744 = .ok (.aload_n 0, 1) := dk_42 (dk_at dksL_law_24 11 rfl rfl)
theorem dL_law_745 : decode cL_law 745 = .ok (.iload 4, 2) := dk_21 4 (dk_at dksL_law_24 12 rfl rfl)
theorem dL_law_747 : decode cL_law 747 = .ok (.iconst 3, 1) := dk_6 (dk_at dksL_law_24 14 rfl rfl)
theorem dL_law_748 : decode cL_law 748 = .ok (.iadd, 1) := dk_96 (dk_at dksL_law_24 15 rfl rfl)
theorem dL_law_749 : decode cL_law 749 = .ok (.iaload, 1) := dk_46 (dk_at dksL_law_24 16 rfl rfl)
theorem dL_law_750 : decode cL_law 750 = .ok (.aload_n 0, 1) := dk_42 (dk_at dksL_law_24 17 rfl rfl)
theorem dL_law_751 : decode cL_law 751 = .ok (.iload 4, 2) := dk_21 4 (dk_at dksL_law_24 18 rfl rfl)
theorem dL_law_753 : decode cL_law 753 = .ok (.iconst 4, 1) := dk_7 (dk_at dksL_law_24 20 rfl rfl)
theorem dL_law_754 : decode cL_law 754 = .ok (.iadd, 1) := dk_96 (dk_at dksL_law_24 21 rfl rfl)
theorem dL_law_755 : decode cL_law 755 = .ok (.iaload, 1) := dk_46 (dk_at dksL_law_24 22 rfl rfl)
theorem dL_law_756 : decode cL_law 756 = .ok (.aload_n 0, 1) := dk_42 (dk_at dksL_law_24 23 rfl rfl)
theorem dL_law_757 : decode cL_law 757 = .ok (.iload 4, 2) := dk_21 4 (dk_at dksL_law_25 0 rfl rfl)
theorem dL_law_759 : decode cL_law 759 = .ok (.iconst 5, 1) := dk_8 (dk_at dksL_law_25 2 rfl rfl)
theorem dL_law_760 : decode cL_law 760 = .ok (.iadd, 1) := dk_96 (dk_at dksL_law_25 3 rfl rfl)
theorem dL_law_761 : decode cL_law 761 = .ok (.iaload, 1) := dk_46 (dk_at dksL_law_25 4 rfl rfl)
theorem dL_law_762 : decode cL_law 762 = .ok (.aload_n 0, 1) := dk_42 (dk_at dksL_law_25 5 rfl rfl)
theorem dL_law_763 : decode cL_law 763 = .ok (.iload 4, 2) := dk_21 4 (dk_at dksL_law_25 6 rfl rfl)
theorem dL_law_765 : decode cL_law 765 = .ok (.bipush 6, 2) := dk_16 6 (dk_at dksL_law_25 8 rfl rfl)
theorem dL_law_767 : decode cL_law 767 = .ok (.iadd, 1) := dk_96 (dk_at dksL_law_25 10 rfl rfl)
theorem dL_law_768 : decode cL_law 768 = .ok (.iaload, 1) := dk_46 (dk_at dksL_law_25 11 rfl rfl)
theorem dL_law_769 : decode cL_law 769 = .ok (.invokevirtual 67, 3) := dk_182 0 67 (dk_at dksL_law_25 12 rfl rfl)
theorem dL_law_772 : decode cL_law 772 = .ok (.if_icmp .eq 1182, 3) := dk_159 4 158 (dk_at dksL_law_25 15 rfl rfl)
theorem dL_law_775 : decode cL_law 775 = .ok (.iconst 0, 1) := dk_3 (dk_at dksL_law_25 18 rfl rfl)
theorem dL_law_776 : decode cL_law 776 = .ok (.ireturn, 1) := dk_172 (dk_at dksL_law_25 19 rfl rfl)
theorem dL_law_777 : decode cL_law 777 = .ok (.aload_n 1, 1) := dk_43 (dk_at dksL_law_25 20 rfl rfl)
theorem dL_law_778 : decode cL_law 778 = .ok (.aload_n 0, 1) := dk_42 (dk_at dksL_law_25 21 rfl rfl)
theorem dL_law_779 : decode cL_law 779 = .ok (.iload 4, 2) := dk_21 4 (dk_at dksL_law_25 22 rfl rfl)
theorem dL_law_781 : decode cL_law 781 = .ok (.iconst 1, 1) := dk_4 (dk_at dksL_law_26 0 rfl rfl)
theorem dL_law_782 : decode cL_law 782 = .ok (.iadd, 1) := dk_96 (dk_at dksL_law_26 1 rfl rfl)
theorem dL_law_783 : decode cL_law 783 = .ok (.iaload, 1) := dk_46 (dk_at dksL_law_26 2 rfl rfl)
theorem dL_law_784 : decode cL_law 784 = .ok (.aload_n 0, 1) := dk_42 (dk_at dksL_law_26 3 rfl rfl)
theorem dL_law_785 : decode cL_law 785 = .ok (.iload 4, 2) := dk_21 4 (dk_at dksL_law_26 4 rfl rfl)
theorem dL_law_787 : decode cL_law 787 = .ok (.iconst 2, 1) := dk_5 (dk_at dksL_law_26 6 rfl rfl)
theorem dL_law_788 : decode cL_law 788 = .ok (.iadd, 1) := dk_96 (dk_at dksL_law_26 7 rfl rfl)
theorem dL_law_789 : decode cL_law 789 = .ok (.iaload, 1) := dk_46 (dk_at dksL_law_26 8 rfl rfl)
theorem dL_law_790 : decode cL_law 790 = .ok (.aload_n 0, 1) := dk_42 (dk_at dksL_law_26 9 rfl rfl)
theorem dL_law_791 : decode cL_law 791 = .ok (.iload 4, 2) := dk_21 4 (dk_at dksL_law_26 10 rfl rfl)
theorem dL_law_793 : decode cL_law 793 = .ok (.iconst 3, 1) := dk_6 (dk_at dksL_law_26 12 rfl rfl)
theorem dL_law_794 : decode cL_law 794 = .ok (.iadd, 1) := dk_96 (dk_at dksL_law_26 13 rfl rfl)
theorem dL_law_795 : decode cL_law 795 = .ok (.iaload, 1) := dk_46 (dk_at dksL_law_26 14 rfl rfl)
theorem dL_law_796 : decode cL_law 796 = .ok (.aload_n 0, 1) := dk_42 (dk_at dksL_law_26 15 rfl rfl)
theorem dL_law_797 : decode cL_law 797 = .ok (.iload 4, 2) := dk_21 4 (dk_at dksL_law_26 16 rfl rfl)
theorem dL_law_799 : decode cL_law 799 = .ok (.iconst 4, 1) := dk_7 (dk_at dksL_law_26 18 rfl rfl)
theorem dL_law_800 : decode cL_law 800 = .ok (.iadd, 1) := dk_96 (dk_at dksL_law_26 19 rfl rfl)
theorem dL_law_801 : decode cL_law 801 = .ok (.iaload, 1) := dk_46 (dk_at dksL_law_26 20 rfl rfl)
theorem dL_law_802 : decode cL_law 802 = .ok (.invokevirtual 68, 3) := dk_182 0 68 (dk_at dksL_law_26 21 rfl rfl)
theorem dL_law_805 : decode cL_law 805 = .ok (.aload_n 2, 1) := dk_44 (dk_at dksL_law_27 0 rfl rfl)
theorem dL_law_806 : decode cL_law 806 = .ok (.aload_n 0, 1) := dk_42 (dk_at dksL_law_27 1 rfl rfl)
theorem dL_law_807 : decode cL_law 807 = .ok (.iload 4, 2) := dk_21 4 (dk_at dksL_law_27 2 rfl rfl)
theorem dL_law_809 : decode cL_law 809 = .ok (.iconst 1, 1) := dk_4 (dk_at dksL_law_27 4 rfl rfl)
theorem dL_law_810 : decode cL_law 810 = .ok (.iadd, 1) := dk_96 (dk_at dksL_law_27 5 rfl rfl)
theorem dL_law_811 : decode cL_law 811 = .ok (.iaload, 1) := dk_46 (dk_at dksL_law_27 6 rfl rfl)
theorem dL_law_812 : decode cL_law 812 = .ok (.aload_n 0, 1) := dk_42 (dk_at dksL_law_27 7 rfl rfl)
theorem dL_law_813 : decode cL_law 813 = .ok (.iload 4, 2) := dk_21 4 (dk_at dksL_law_27 8 rfl rfl)
theorem dL_law_815 : decode cL_law 815 = .ok (.iconst 2, 1) := dk_5 (dk_at dksL_law_27 10 rfl rfl)
theorem dL_law_816 : decode cL_law 816 = .ok (.iadd, 1) := dk_96 (dk_at dksL_law_27 11 rfl rfl)
theorem dL_law_817 : decode cL_law 817 = .ok (.iaload, 1) := dk_46 (dk_at dksL_law_27 12 rfl rfl)
theorem dL_law_818 : decode cL_law 818 = .ok (.aload_n 0, 1) := dk_42 (dk_at dksL_law_27 13 rfl rfl)
theorem dL_law_819 : decode cL_law 819 = .ok (.iload 4, 2) := dk_21 4 (dk_at dksL_law_27 14 rfl rfl)
theorem dL_law_821 : decode cL_law 821 = .ok (.iconst 3, 1) := dk_6 (dk_at dksL_law_27 16 rfl rfl)
theorem dL_law_822 : decode cL_law 822 = .ok (.iadd, 1) := dk_96 (dk_at dksL_law_27 17 rfl rfl)
theorem dL_law_823 : decode cL_law 823 = .ok (.iaload, 1) := dk_46 (dk_at dksL_law_27 18 rfl rfl)
theorem dL_law_824 : decode cL_law 824 = .ok (.aload_n 0, 1) := dk_42 (dk_at dksL_law_27 19 rfl rfl)
theorem dL_law_825 : decode cL_law 825 = .ok (.iload 4, 2) := dk_21 4 (dk_at dksL_law_27 20 rfl rfl)
theorem dL_law_827 : decode cL_law 827 = .ok (.iconst 4, 1) := dk_7 (dk_at dksL_law_27 22 rfl rfl)
theorem dL_law_828 : decode cL_law 828 = .ok (.iadd, 1) := dk_96 (dk_at dksL_law_27 23 rfl rfl)
theorem dL_law_829 : decode cL_law 829 = .ok (.iaload, 1) := dk_46 (dk_at dksL_law_28 0 rfl rfl)
theorem dL_law_830 : decode cL_law 830 = .ok (.invokevirtual 71, 3) := dk_182 0 71 (dk_at dksL_law_28 1 rfl rfl)
theorem dL_law_833 : decode cL_law 833 = .ok (.if_icmp .eq 1121, 3) := dk_159 4 97 (dk_at dksL_law_28 4 rfl rfl)
theorem dL_law_836 : decode cL_law 836 = .ok (.iconst 0, 1) := dk_3 (dk_at dksL_law_28 7 rfl rfl)
theorem dL_law_837 : decode cL_law 837 = .ok (.ireturn, 1) := dk_172 (dk_at dksL_law_28 8 rfl rfl)
theorem dL_law_838 : decode cL_law 838 = .ok (.aload_n 1, 1) := dk_43 (dk_at dksL_law_28 9 rfl rfl)
theorem dL_law_839 : decode cL_law 839 = .ok (.aload_n 0, 1) := dk_42 (dk_at dksL_law_28 10 rfl rfl)
theorem dL_law_840 : decode cL_law 840 = .ok (.iload 4, 2) := dk_21 4 (dk_at dksL_law_28 11 rfl rfl)
theorem dL_law_842 : decode cL_law 842 = .ok (.iconst 1, 1) := dk_4 (dk_at dksL_law_28 13 rfl rfl)
theorem dL_law_843 : decode cL_law 843 = .ok (.iadd, 1) := dk_96 (dk_at dksL_law_28 14 rfl rfl)
theorem dL_law_844 : decode cL_law 844 = .ok (.iaload, 1) := dk_46 (dk_at dksL_law_28 15 rfl rfl)
theorem dL_law_845 : decode cL_law 845 = .ok (.aload_n 0, 1) := dk_42 (dk_at dksL_law_28 16 rfl rfl)
theorem dL_law_846 : decode cL_law 846 = .ok (.iload 4, 2) := dk_21 4 (dk_at dksL_law_28 17 rfl rfl)
theorem dL_law_848 : decode cL_law 848 = .ok (.iconst 2, 1) := dk_5 (dk_at dksL_law_28 19 rfl rfl)
theorem dL_law_849 : decode cL_law 849 = .ok (.iadd, 1) := dk_96 (dk_at dksL_law_28 20 rfl rfl)
theorem dL_law_850 : decode cL_law 850 = .ok (.iaload, 1) := dk_46 (dk_at dksL_law_28 21 rfl rfl)
theorem dL_law_851 : decode cL_law 851 = .ok (.aload_n 0, 1) := dk_42 (dk_at dksL_law_28 22 rfl rfl)
theorem dL_law_852 : decode cL_law 852 = .ok (.iload 4, 2) := dk_21 4 (dk_at dksL_law_29 0 rfl rfl)
theorem dL_law_854 : decode cL_law 854 = .ok (.iconst 3, 1) := dk_6 (dk_at dksL_law_29 2 rfl rfl)
theorem dL_law_855 : decode cL_law 855 = .ok (.iadd, 1) := dk_96 (dk_at dksL_law_29 3 rfl rfl)
theorem dL_law_856 : decode cL_law 856 = .ok (.iaload, 1) := dk_46 (dk_at dksL_law_29 4 rfl rfl)
theorem dL_law_857 : decode cL_law 857 = .ok (.aload_n 0, 1) := dk_42 (dk_at dksL_law_29 5 rfl rfl)
theorem dL_law_858 : decode cL_law 858 = .ok (.iload 4, 2) := dk_21 4 (dk_at dksL_law_29 6 rfl rfl)
theorem dL_law_860 : decode cL_law 860 = .ok (.iconst 4, 1) := dk_7 (dk_at dksL_law_29 8 rfl rfl)
theorem dL_law_861 : decode cL_law 861 = .ok (.iadd, 1) := dk_96 (dk_at dksL_law_29 9 rfl rfl)
theorem dL_law_862 : decode cL_law 862 = .ok (.iaload, 1) := dk_46 (dk_at dksL_law_29 10 rfl rfl)
theorem dL_law_863 : decode cL_law 863 = .ok (.aload_n 0, 1) := dk_42 (dk_at dksL_law_29 11 rfl rfl)
theorem dL_law_864 : decode cL_law 864 = .ok (.iload 4, 2) := dk_21 4 (dk_at dksL_law_29 12 rfl rfl)
theorem dL_law_866 : decode cL_law 866 = .ok (.iconst 5, 1) := dk_8 (dk_at dksL_law_29 14 rfl rfl)
theorem dL_law_867 : decode cL_law 867 = .ok (.iadd, 1) := dk_96 (dk_at dksL_law_29 15 rfl rfl)
theorem dL_law_868 : decode cL_law 868 = .ok (.iaload, 1) := dk_46 (dk_at dksL_law_29 16 rfl rfl)
theorem dL_law_869 : decode cL_law 869 = .ok (.invokevirtual 72, 3) := dk_182 0 72 (dk_at dksL_law_29 17 rfl rfl)
theorem dL_law_872 : decode cL_law 872 = .ok (.aload_n 2, 1) := dk_44 (dk_at dksL_law_29 20 rfl rfl)
theorem dL_law_873 : decode cL_law 873 = .ok (.aload_n 0, 1) := dk_42 (dk_at dksL_law_29 21 rfl rfl)
theorem dL_law_874 : decode cL_law 874 = .ok (.iload 4, 2) := dk_21 4 (dk_at dksL_law_29 22 rfl rfl)
theorem dL_law_876 : decode cL_law 876 = .ok (.iconst 1, 1) := dk_4 (dk_at dksL_law_30 0 rfl rfl)
theorem dL_law_877 : decode cL_law 877 = .ok (.iadd, 1) := dk_96 (dk_at dksL_law_30 1 rfl rfl)
theorem dL_law_878 : decode cL_law 878 = .ok (.iaload, 1) := dk_46 (dk_at dksL_law_30 2 rfl rfl)
theorem dL_law_879 : decode cL_law 879 = .ok (.aload_n 0, 1) := dk_42 (dk_at dksL_law_30 3 rfl rfl)
theorem dL_law_880 : decode cL_law 880 = .ok (.iload 4, 2) := dk_21 4 (dk_at dksL_law_30 4 rfl rfl)
theorem dL_law_882 : decode cL_law 882 = .ok (.iconst 2, 1) := dk_5 (dk_at dksL_law_30 6 rfl rfl)
theorem dL_law_883 : decode cL_law 883 = .ok (.iadd, 1) := dk_96 (dk_at dksL_law_30 7 rfl rfl)
theorem dL_law_884 : decode cL_law 884 = .ok (.iaload, 1) := dk_46 (dk_at dksL_law_30 8 rfl rfl)
theorem dL_law_885 : decode cL_law 885 = .ok (.aload_n 0, 1) := dk_42 (dk_at dksL_law_30 9 rfl rfl)
theorem dL_law_886 : decode cL_law 886 = .ok (.iload 4, 2) := dk_21 4 (dk_at dksL_law_30 10 rfl rfl)
theorem dL_law_888 : decode cL_law 888 = .ok (.iconst 3, 1) := dk_6 (dk_at dksL_law_30 12 rfl rfl)
theorem dL_law_889 : decode cL_law 889 = .ok (.iadd, 1) := dk_96 (dk_at dksL_law_30 13 rfl rfl)
theorem dL_law_890 : decode cL_law 890 = .ok (.iaload, 1) := dk_46 (dk_at dksL_law_30 14 rfl rfl)
theorem dL_law_891 : decode cL_law 891 = .ok (.aload_n 0, 1) := dk_42 (dk_at dksL_law_30 15 rfl rfl)
theorem dL_law_892 : decode cL_law 892 = .ok (.iload 4, 2) := dk_21 4 (dk_at dksL_law_30 16 rfl rfl)
theorem dL_law_894 : decode cL_law 894 = .ok (.iconst 4, 1) := dk_7 (dk_at dksL_law_30 18 rfl rfl)
theorem dL_law_895 : decode cL_law 895 = .ok (.iadd, 1) := dk_96 (dk_at dksL_law_30 19 rfl rfl)
theorem dL_law_896 : decode cL_law 896 = .ok (.iaload, 1) := dk_46 (dk_at dksL_law_30 20 rfl rfl)
theorem dL_law_897 : decode cL_law 897 = .ok (.aload_n 0, 1) := dk_42 (dk_at dksL_law_30 21 rfl rfl)
theorem dL_law_898 : decode cL_law 898 = .ok (.iload 4, 2) := dk_21 4 (dk_at dksL_law_30 22 rfl rfl)
theorem dL_law_900 : decode cL_law 900 = .ok (.iconst 5, 1) := dk_8 (dk_at dksL_law_31 0 rfl rfl)
theorem dL_law_901 : decode cL_law 901 = .ok (.iadd, 1) := dk_96 (dk_at dksL_law_31 1 rfl rfl)
theorem dL_law_902 : decode cL_law 902 = .ok (.iaload, 1) := dk_46 (dk_at dksL_law_31 2 rfl rfl)
theorem dL_law_903 : decode cL_law 903 = .ok (.invokevirtual 75, 3) := dk_182 0 75 (dk_at dksL_law_31 3 rfl rfl)
theorem dL_law_906 : decode cL_law 906 = .ok (.if_icmp .eq 1048, 3) := dk_159 4 24 (dk_at dksL_law_31 6 rfl rfl)
theorem dL_law_909 : decode cL_law 909 = .ok (.iconst 0, 1) := dk_3 (dk_at dksL_law_31 9 rfl rfl)
theorem dL_law_910 : decode cL_law 910 = .ok (.ireturn, 1) := dk_172 (dk_at dksL_law_31 10 rfl rfl)
theorem dL_law_911 : decode cL_law 911 = .ok (.aload_n 1, 1) := dk_43 (dk_at dksL_law_31 11 rfl rfl)
theorem dL_law_912 : decode cL_law 912 = .ok (.aload_n 0, 1) := dk_42 (dk_at dksL_law_31 12 rfl rfl)
theorem dL_law_913 : decode cL_law 913 = .ok (.iload 4, 2) := dk_21 4 (dk_at dksL_law_31 13 rfl rfl)
theorem dL_law_915 : decode cL_law 915 = .ok (.iconst 1, 1) := dk_4 (dk_at dksL_law_31 15 rfl rfl)
theorem dL_law_916 : decode cL_law 916 = .ok (.iadd, 1) := dk_96 (dk_at dksL_law_31 16 rfl rfl)
theorem dL_law_917 : decode cL_law 917 = .ok (.iaload, 1) := dk_46 (dk_at dksL_law_31 17 rfl rfl)
theorem dL_law_918 : decode cL_law 918 = .ok (.aload_n 0, 1) := dk_42 (dk_at dksL_law_31 18 rfl rfl)
theorem dL_law_919 : decode cL_law 919 = .ok (.iload 4, 2) := dk_21 4 (dk_at dksL_law_31 19 rfl rfl)
theorem dL_law_921 : decode cL_law 921 = .ok (.iconst 2, 1) := dk_5 (dk_at dksL_law_31 21 rfl rfl)
theorem dL_law_922 : decode cL_law 922 = .ok (.iadd, 1) := dk_96 (dk_at dksL_law_31 22 rfl rfl)
theorem dL_law_923 : decode cL_law 923 = .ok (.iaload, 1) := dk_46 (dk_at dksL_law_31 23 rfl rfl)
theorem dL_law_924 : decode cL_law 924 = .ok (.aload_n 0, 1) := dk_42 (dk_at dksL_law_32 0 rfl rfl)
theorem dL_law_925 : decode cL_law 925 = .ok (.iload 4, 2) := dk_21 4 (dk_at dksL_law_32 1 rfl rfl)
theorem dL_law_927 : decode cL_law 927 = .ok (.iconst 3, 1) := dk_6 (dk_at dksL_law_32 3 rfl rfl)
theorem dL_law_928 : decode cL_law 928 = .ok (.iadd, 1) := dk_96 (dk_at dksL_law_32 4 rfl rfl)
theorem dL_law_929 : decode cL_law 929 = .ok (.iaload, 1) := dk_46 (dk_at dksL_law_32 5 rfl rfl)
theorem dL_law_930 : decode cL_law 930 = .ok (.aload_n 0, 1) := dk_42 (dk_at dksL_law_32 6 rfl rfl)
theorem dL_law_931 : decode cL_law 931 = .ok (.iload 4, 2) := dk_21 4 (dk_at dksL_law_32 7 rfl rfl)
theorem dL_law_933 : decode cL_law 933 = .ok (.iconst 4, 1) := dk_7 (dk_at dksL_law_32 9 rfl rfl)
theorem dL_law_934 : decode cL_law 934 = .ok (.iadd, 1) := dk_96 (dk_at dksL_law_32 10 rfl rfl)
theorem dL_law_935 : decode cL_law 935 = .ok (.iaload, 1) := dk_46 (dk_at dksL_law_32 11 rfl rfl)
theorem dL_law_936 : decode cL_law 936 = .ok (.invokevirtual 76, 3) := dk_182 0 76 (dk_at dksL_law_32 12 rfl rfl)
theorem dL_law_939 : decode cL_law 939 = .ok (.aload_n 2, 1) := dk_44 (dk_at dksL_law_32 15 rfl rfl)
theorem dL_law_940 : decode cL_law 940 = .ok (.aload_n 0, 1) := dk_42 (dk_at dksL_law_32 16 rfl rfl)
theorem dL_law_941 : decode cL_law 941 = .ok (.iload 4, 2) := dk_21 4 (dk_at dksL_law_32 17 rfl rfl)
theorem dL_law_943 : decode cL_law 943 = .ok (.iconst 1, 1) := dk_4 (dk_at dksL_law_32 19 rfl rfl)
theorem dL_law_944 : decode cL_law 944 = .ok (.iadd, 1) := dk_96 (dk_at dksL_law_32 20 rfl rfl)
theorem dL_law_945 : decode cL_law 945 = .ok (.iaload, 1) := dk_46 (dk_at dksL_law_32 21 rfl rfl)
theorem dL_law_946 : decode cL_law 946 = .ok (.aload_n 0, 1) := dk_42 (dk_at dksL_law_32 22 rfl rfl)
theorem dL_law_947 : decode cL_law 947 = .ok (.iload 4, 2) := dk_21 4 (dk_at dksL_law_33 0 rfl rfl)
theorem dL_law_949 : decode cL_law 949 = .ok (.iconst 2, 1) := dk_5 (dk_at dksL_law_33 2 rfl rfl)
theorem dL_law_950 : decode cL_law 950 = .ok (.iadd, 1) := dk_96 (dk_at dksL_law_33 3 rfl rfl)
theorem dL_law_951 : decode cL_law 951 = .ok (.iaload, 1) := dk_46 (dk_at dksL_law_33 4 rfl rfl)
theorem dL_law_952 : decode cL_law 952 = .ok (.aload_n 0, 1) := dk_42 (dk_at dksL_law_33 5 rfl rfl)
theorem dL_law_953 : decode cL_law 953 = .ok (.iload 4, 2) := dk_21 4 (dk_at dksL_law_33 6 rfl rfl)
theorem dL_law_955 : decode cL_law 955 = .ok (.iconst 3, 1) := dk_6 (dk_at dksL_law_33 8 rfl rfl)
theorem dL_law_956 : decode cL_law 956 = .ok (.iadd, 1) := dk_96 (dk_at dksL_law_33 9 rfl rfl)
theorem dL_law_957 : decode cL_law 957 = .ok (.iaload, 1) := dk_46 (dk_at dksL_law_33 10 rfl rfl)
theorem dL_law_958 : decode cL_law 958 = .ok (.aload_n 0, 1) := dk_42 (dk_at dksL_law_33 11 rfl rfl)
theorem dL_law_959 : decode cL_law 959 = .ok (.iload 4, 2) := dk_21 4 (dk_at dksL_law_33 12 rfl rfl)
theorem dL_law_961 : decode cL_law 961 = .ok (.iconst 4, 1) := dk_7 (dk_at dksL_law_33 14 rfl rfl)
theorem dL_law_962 : decode cL_law 962 = .ok (.iadd, 1) := dk_96 (dk_at dksL_law_33 15 rfl rfl)
theorem dL_law_963 : decode cL_law 963 = .ok (.iaload, 1) := dk_46 (dk_at dksL_law_33 16 rfl rfl)
theorem dL_law_964 : decode cL_law 964 = .ok (.invokevirtual 79, 3) := dk_182 0 79 (dk_at dksL_law_33 17 rfl rfl)
theorem dL_law_967 : decode cL_law 967 = .ok (.if_icmp .eq 987, 3) := dk_159 3 219 (dk_at dksL_law_33 20 rfl rfl)
theorem dL_law_970 : decode cL_law 970 = .ok (.iconst 0, 1) := dk_3 (dk_at dksL_law_33 23 rfl rfl)
theorem dL_law_971 : decode cL_law 971 = .ok (.ireturn, 1) := dk_172 (dk_at dksL_law_34 0 rfl rfl)
theorem dL_law_972 : decode cL_law 972 = .ok (.aload_n 1, 1) := dk_43 (dk_at dksL_law_34 1 rfl rfl)
theorem dL_law_973 : decode cL_law 973 = .ok (.aload_n 0, 1) := dk_42 (dk_at dksL_law_34 2 rfl rfl)
theorem dL_law_974 : decode cL_law 974 = .ok (.iload 4, 2) := dk_21 4 (dk_at dksL_law_34 3 rfl rfl)
theorem dL_law_976 : decode cL_law 976 = .ok (.iconst 1, 1) := dk_4 (dk_at dksL_law_34 5 rfl rfl)
theorem dL_law_977 : decode cL_law 977 = .ok (.iadd, 1) := dk_96 (dk_at dksL_law_34 6 rfl rfl)
theorem dL_law_978 : decode cL_law 978 = .ok (.iaload, 1) := dk_46 (dk_at dksL_law_34 7 rfl rfl)
theorem dL_law_979 : decode cL_law 979 = .ok (.invokevirtual 80, 3) := dk_182 0 80 (dk_at dksL_law_34 8 rfl rfl)
theorem dL_law_982 : decode cL_law 982 = .ok (.aload_n 2, 1) := dk_44 (dk_at dksL_law_34 11 rfl rfl)
theorem dL_law_983 : decode cL_law 983 = .ok (.aload_n 0, 1) := dk_42 (dk_at dksL_law_34 12 rfl rfl)
theorem dL_law_984 : decode cL_law 984 = .ok (.iload 4, 2) := dk_21 4 (dk_at dksL_law_34 13 rfl rfl)
theorem dL_law_986 : decode cL_law 986 = .ok (.iconst 1, 1) := dk_4 (dk_at dksL_law_34 15 rfl rfl)
theorem dL_law_987 : decode cL_law 987 = .ok (.iadd, 1) := dk_96 (dk_at dksL_law_34 16 rfl rfl)
theorem dL_law_988 : decode cL_law 988 = .ok (.iaload, 1) := dk_46 (dk_at dksL_law_34 17 rfl rfl)
theorem dL_law_989 : decode cL_law 989 = .ok (.invokevirtual 83, 3) := dk_182 0 83 (dk_at dksL_law_34 18 rfl rfl)
theorem dL_law_992 : decode cL_law 992 = .ok (.if_icmp .eq 962, 3) := dk_159 3 194 (dk_at dksL_law_34 21 rfl rfl)
theorem dL_law_995 : decode cL_law 995 = .ok (.iconst 0, 1) := dk_3 (dk_at dksL_law_35 0 rfl rfl)
theorem dL_law_996 : decode cL_law 996 = .ok (.ireturn, 1) := dk_172 (dk_at dksL_law_35 1 rfl rfl)
theorem dL_law_997 : decode cL_law 997 = .ok (.aload_n 1, 1) := dk_43 (dk_at dksL_law_35 2 rfl rfl)
theorem dL_law_998 : decode cL_law 998 = .ok (.aload_n 0, 1) := dk_42 (dk_at dksL_law_35 3 rfl rfl)
theorem dL_law_999 : decode cL_law 999 = .ok (.iload 4, 2) := dk_21 4 (dk_at dksL_law_35 4 rfl rfl)
theorem dL_law_1001 : decode cL_law 1001 = .ok (.iconst 1, 1) := dk_4 (dk_at dksL_law_35 6 rfl rfl)
theorem dL_law_1002 : decode cL_law 1002 = .ok (.iadd, 1) := dk_96 (dk_at dksL_law_35 7 rfl rfl)
theorem dL_law_1003 : decode cL_law 1003 = .ok (.iaload, 1) := dk_46 (dk_at dksL_law_35 8 rfl rfl)
theorem dL_law_1004 : decode cL_law 1004 = .ok (.aload_n 0, 1) := dk_42 (dk_at dksL_law_35 9 rfl rfl)
theorem dL_law_1005 : decode cL_law 1005 = .ok (.iload 4, 2) := dk_21 4 (dk_at dksL_law_35 10 rfl rfl)
theorem dL_law_1007 : decode cL_law 1007 = .ok (.iconst 2, 1) := dk_5 (dk_at dksL_law_35 12 rfl rfl)
theorem dL_law_1008 : decode cL_law 1008 = .ok (.iadd, 1) := dk_96 (dk_at dksL_law_35 13 rfl rfl)
theorem dL_law_1009 : decode cL_law 1009 = .ok (.iaload, 1) := dk_46 (dk_at dksL_law_35 14 rfl rfl)
theorem dL_law_1010 : decode cL_law 1010 = .ok (.invokevirtual 84, 3) := dk_182 0 84 (dk_at dksL_law_35 15 rfl rfl)
theorem dL_law_1013 : decode cL_law 1013 = .ok (.aload_n 2, 1) := dk_44 (dk_at dksL_law_35 18 rfl rfl)
theorem dL_law_1014 : decode cL_law 1014 = .ok (.aload_n 0, 1) := dk_42 (dk_at dksL_law_35 19 rfl rfl)
theorem dL_law_1015 : decode cL_law 1015 = .ok (.iload 4, 2) := dk_21 4 (dk_at dksL_law_35 20 rfl rfl)
theorem dL_law_1017 : decode cL_law 1017 = .ok (.iconst 1, 1) := dk_4 (dk_at dksL_law_35 22 rfl rfl)
theorem dL_law_1018 : decode cL_law 1018 = .ok (.iadd, 1) := dk_96 (dk_at dksL_law_35 23 rfl rfl)
theorem dL_law_1019 : decode cL_law 1019 = .ok (.iaload, 1) := dk_46 (dk_at dksL_law_36 0 rfl rfl)
theorem dL_law_1020 : decode cL_law 1020 = .ok (.aload_n 0, 1) := dk_42 (dk_at dksL_law_36 1 rfl rfl)
theorem dL_law_1021 : decode cL_law 1021 = .ok (.iload 4, 2) := dk_21 4 (dk_at dksL_law_36 2 rfl rfl)
theorem dL_law_1023 : decode cL_law 1023 = .ok (.iconst 2, 1) := dk_5 (dk_at dksL_law_36 4 rfl rfl)
theorem dL_law_1024 : decode cL_law 1024 = .ok (.iadd, 1) := dk_96 (dk_at dksL_law_36 5 rfl rfl)
theorem dL_law_1025 : decode cL_law 1025 = .ok (.iaload, 1) := dk_46 (dk_at dksL_law_36 6 rfl rfl)
theorem dL_law_1026 : decode cL_law 1026 = .ok (.invokevirtual 88, 3) := dk_182 0 88 (dk_at dksL_law_36 7 rfl rfl)
theorem dL_law_1029 : decode cL_law 1029 = .ok (.if_icmp .eq 925, 3) := dk_159 3 157 (dk_at dksL_law_36 10 rfl rfl)
theorem dL_law_1032 : decode cL_law 1032 = .ok (.iconst 0, 1) := dk_3 (dk_at dksL_law_36 13 rfl rfl)
theorem dL_law_1033 : decode cL_law 1033 = .ok (.ireturn, 1) := dk_172 (dk_at dksL_law_36 14 rfl rfl)
theorem dL_law_1034 : decode cL_law 1034 = .ok (.aload_n 1, 1) := dk_43 (dk_at dksL_law_36 15 rfl rfl)
theorem dL_law_1035 : decode cL_law 1035 = .ok (.aload_n 0, 1) := dk_42 (dk_at dksL_law_36 16 rfl rfl)
theorem dL_law_1036 : decode cL_law 1036 = .ok (.iload 4, 2) := dk_21 4 (dk_at dksL_law_36 17 rfl rfl)
theorem dL_law_1038 : decode cL_law 1038 = .ok (.iconst 1, 1) := dk_4 (dk_at dksL_law_36 19 rfl rfl)
theorem dL_law_1039 : decode cL_law 1039 = .ok (.iadd, 1) := dk_96 (dk_at dksL_law_36 20 rfl rfl)
theorem dL_law_1040 : decode cL_law 1040 = .ok (.iaload, 1) := dk_46 (dk_at dksL_law_36 21 rfl rfl)
theorem dL_law_1041 : decode cL_law 1041 = .ok (.ifCond .eq 7, 3) := dk_153 0 7 (dk_at dksL_law_37 0 rfl rfl)
theorem dL_law_1044 : decode cL_law 1044 = .ok (.iconst 1, 1) := dk_4 (dk_at dksL_law_37 3 rfl rfl)
theorem dL_law_1045 : decode cL_law 1045 = .ok (.goto 4, 3) := dk_167 0 4 (dk_at dksL_law_37 4 rfl rfl)
theorem dL_law_1048 : decode cL_law 1048 = .ok (.iconst 0, 1) := dk_3 (dk_at dksL_law_37 7 rfl rfl)
theorem dL_law_1049 : decode cL_law 1049 = .ok (.invokevirtual 89, 3) := dk_182 0 89 (dk_at dksL_law_37 8 rfl rfl)
theorem dL_law_1052 : decode cL_law 1052 = .ok (.aload_n 2, 1) := dk_44 (dk_at dksL_law_37 11 rfl rfl)
theorem dL_law_1053 : decode cL_law 1053 = .ok (.aload_n 0, 1) := dk_42 (dk_at dksL_law_37 12 rfl rfl)
theorem dL_law_1054 : decode cL_law 1054 = .ok (.iload 4, 2) := dk_21 4 (dk_at dksL_law_37 13 rfl rfl)
theorem dL_law_1056 : decode cL_law 1056 = .ok (.iconst 1, 1) := dk_4 (dk_at dksL_law_37 15 rfl rfl)
theorem dL_law_1057 : decode cL_law 1057 = .ok (.iadd, 1) := dk_96 (dk_at dksL_law_37 16 rfl rfl)
theorem dL_law_1058 : decode cL_law 1058 = .ok (.iaload, 1) := dk_46 (dk_at dksL_law_37 17 rfl rfl)
theorem dL_law_1059 : decode cL_law 1059 = .ok (.ifCond .eq 7, 3) := dk_153 0 7 (dk_at dksL_law_37 18 rfl rfl)
theorem dL_law_1062 : decode cL_law 1062 = .ok (.iconst 1, 1) := dk_4 (dk_at dksL_law_37 21 rfl rfl)
theorem dL_law_1063 : decode cL_law 1063 = .ok (.goto 4, 3) := dk_167 0 4 (dk_at dksL_law_38 0 rfl rfl)
theorem dL_law_1066 : decode cL_law 1066 = .ok (.iconst 0, 1) := dk_3 (dk_at dksL_law_38 3 rfl rfl)
theorem dL_law_1067 : decode cL_law 1067 = .ok (.invokevirtual 93, 3) := dk_182 0 93 (dk_at dksL_law_38 4 rfl rfl)
theorem dL_law_1070 : decode cL_law 1070 = .ok (.if_icmp .eq 884, 3) := dk_159 3 116 (dk_at dksL_law_38 7 rfl rfl)
theorem dL_law_1073 : decode cL_law 1073 = .ok (.iconst 0, 1) := dk_3 (dk_at dksL_law_38 10 rfl rfl)
theorem dL_law_1074 : decode cL_law 1074 = .ok (.ireturn, 1) := dk_172 (dk_at dksL_law_38 11 rfl rfl)
theorem dL_law_1075 : decode cL_law 1075 = .ok (.aload_n 1, 1) := dk_43 (dk_at dksL_law_38 12 rfl rfl)
theorem dL_law_1076 : decode cL_law 1076 = .ok (.invokevirtual 94, 3) := dk_182 0 94 (dk_at dksL_law_38 13 rfl rfl)
theorem dL_law_1079 : decode cL_law 1079 = .ok (.aload_n 2, 1) := dk_44 (dk_at dksL_law_38 16 rfl rfl)
theorem dL_law_1080 : decode cL_law 1080 = .ok (.invokevirtual 97, 3) := dk_182 0 97 (dk_at dksL_law_38 17 rfl rfl)
theorem dL_law_1083 : decode cL_law 1083 = .ok (.if_icmp .eq 871, 3) := dk_159 3 103 (dk_at dksL_law_38 20 rfl rfl)
theorem dL_law_1086 : decode cL_law 1086 = .ok (.iconst 0, 1) := dk_3 (dk_at dksL_law_38 23 rfl rfl)
theorem dL_law_1087 : decode cL_law 1087 = .ok (.ireturn, 1) := dk_172 (dk_at dksL_law_39 0 rfl rfl)
theorem dL_law_1088 : decode cL_law 1088 = .ok (.aload_n 1, 1) := dk_43 (dk_at dksL_law_39 1 rfl rfl)
theorem dL_law_1089 : decode cL_law 1089 = .ok (.aload_n 0, 1) := dk_42 (dk_at dksL_law_39 2 rfl rfl)
theorem dL_law_1090 : decode cL_law 1090 = .ok (.iload 4, 2) := dk_21 4 (dk_at dksL_law_39 3 rfl rfl)
theorem dL_law_1092 : decode cL_law 1092 = .ok (.iconst 1, 1) := dk_4 (dk_at dksL_law_39 5 rfl rfl)
theorem dL_law_1093 : decode cL_law 1093 = .ok (.iadd, 1) := dk_96 (dk_at dksL_law_39 6 rfl rfl)
theorem dL_law_1094 : decode cL_law 1094 = .ok (.iaload, 1) := dk_46 (dk_at dksL_law_39 7 rfl rfl)
theorem dL_law_1095 : decode cL_law 1095 = .ok (.invokevirtual 98, 3) := dk_182 0 98 (dk_at dksL_law_39 8 rfl rfl)
theorem dL_law_1098 : decode cL_law 1098 = .ok (.aload_n 2, 1) := dk_44 (dk_at dksL_law_39 11 rfl rfl)
theorem dL_law_1099 : decode cL_law 1099 = .ok (.aload_n 0, 1) := dk_42 (dk_at dksL_law_39 12 rfl rfl)
theorem dL_law_1100 : decode cL_law 1100 = .ok (.iload 4, 2) := dk_21 4 (dk_at dksL_law_39 13 rfl rfl)
theorem dL_law_1102 : decode cL_law 1102 = .ok (.iconst 1, 1) := dk_4 (dk_at dksL_law_39 15 rfl rfl)
theorem dL_law_1103 : decode cL_law 1103 = .ok (.iadd, 1) := dk_96 (dk_at dksL_law_39 16 rfl rfl)
theorem dL_law_1104 : decode cL_law 1104 = .ok (.iaload, 1) := dk_46 (dk_at dksL_law_39 17 rfl rfl)
theorem dL_law_1105 : decode cL_law 1105 = .ok (.invokevirtual 101, 3) := dk_182 0 101 (dk_at dksL_law_39 18 rfl rfl)
theorem dL_law_1108 : decode cL_law 1108 = .ok (.if_icmp .eq 846, 3) := dk_159 3 78 (dk_at dksL_law_39 21 rfl rfl)
theorem dL_law_1111 : decode cL_law 1111 = .ok (.iconst 0, 1) := dk_3 (dk_at dksL_law_40 0 rfl rfl)
theorem dL_law_1112 : decode cL_law 1112 = .ok (.ireturn, 1) := dk_172 (dk_at dksL_law_40 1 rfl rfl)
theorem dL_law_1113 : decode cL_law 1113 = .ok (.aload_n 1, 1) := dk_43 (dk_at dksL_law_40 2 rfl rfl)
theorem dL_law_1114 : decode cL_law 1114 = .ok (.invokevirtual 102, 3) := dk_182 0 102 (dk_at dksL_law_40 3 rfl rfl)
theorem dL_law_1117 : decode cL_law 1117 = .ok (.aload_n 2, 1) := dk_44 (dk_at dksL_law_40 6 rfl rfl)
theorem dL_law_1118 : decode cL_law 1118 = .ok (.invokevirtual 105, 3) := dk_182 0 105 (dk_at dksL_law_40 7 rfl rfl)
theorem dL_law_1121 : decode cL_law 1121 = .ok (.if_icmp .eq 833, 3) := dk_159 3 65 (dk_at dksL_law_40 10 rfl rfl)
theorem dL_law_1124 : decode cL_law 1124 = .ok (.iconst 0, 1) := dk_3 (dk_at dksL_law_40 13 rfl rfl)
theorem dL_law_1125 : decode cL_law 1125 = .ok (.ireturn, 1) := dk_172 (dk_at dksL_law_40 14 rfl rfl)
theorem dL_law_1126 : decode cL_law 1126 = .ok (.aload_n 1, 1) := dk_43 (dk_at dksL_law_40 15 rfl rfl)
theorem dL_law_1127 : decode cL_law 1127 = .ok (.aload_n 0, 1) := dk_42 (dk_at dksL_law_40 16 rfl rfl)
theorem dL_law_1128 : decode cL_law 1128 = .ok (.iload 4, 2) := dk_21 4 (dk_at dksL_law_40 17 rfl rfl)
theorem dL_law_1130 : decode cL_law 1130 = .ok (.iconst 1, 1) := dk_4 (dk_at dksL_law_40 19 rfl rfl)
theorem dL_law_1131 : decode cL_law 1131 = .ok (.iadd, 1) := dk_96 (dk_at dksL_law_40 20 rfl rfl)
theorem dL_law_1132 : decode cL_law 1132 = .ok (.iaload, 1) := dk_46 (dk_at dksL_law_40 21 rfl rfl)
theorem dL_law_1133 : decode cL_law 1133 = .ok (.invokevirtual 106, 3) := dk_182 0 106 (dk_at dksL_law_41 0 rfl rfl)
theorem dL_law_1136 : decode cL_law 1136 = .ok (.aload_n 2, 1) := dk_44 (dk_at dksL_law_41 3 rfl rfl)
theorem dL_law_1137 : decode cL_law 1137 = .ok (.aload_n 0, 1) := dk_42 (dk_at dksL_law_41 4 rfl rfl)
theorem dL_law_1138 : decode cL_law 1138 = .ok (.iload 4, 2) := dk_21 4 (dk_at dksL_law_41 5 rfl rfl)
theorem dL_law_1140 : decode cL_law 1140 = .ok (.iconst 1, 1) := dk_4 (dk_at dksL_law_41 7 rfl rfl)
theorem dL_law_1141 : decode cL_law 1141 = .ok (.iadd, 1) := dk_96 (dk_at dksL_law_41 8 rfl rfl)
theorem dL_law_1142 : decode cL_law 1142 = .ok (.iaload, 1) := dk_46 (dk_at dksL_law_41 9 rfl rfl)
theorem dL_law_1143 : decode cL_law 1143 = .ok (.invokevirtual 109, 3) := dk_182 0 109 (dk_at dksL_law_41 10 rfl rfl)
theorem dL_law_1146 : decode cL_law 1146 = .ok (.if_icmp .eq 808, 3) := dk_159 3 40 (dk_at dksL_law_41 13 rfl rfl)
theorem dL_law_1149 : decode cL_law 1149 = .ok (.iconst 0, 1) := dk_3 (dk_at dksL_law_41 16 rfl rfl)
theorem dL_law_1150 : decode cL_law 1150 = .ok (.ireturn, 1) := dk_172 (dk_at dksL_law_41 17 rfl rfl)
theorem dL_law_1151 : decode cL_law 1151 = .ok (.aload_n 1, 1) := dk_43 (dk_at dksL_law_41 18 rfl rfl)
theorem dL_law_1152 : decode cL_law 1152 = .ok (.aload_n 0, 1) := dk_42 (dk_at dksL_law_41 19 rfl rfl)
theorem dL_law_1153 : decode cL_law 1153 = .ok (.iload 4, 2) := dk_21 4 (dk_at dksL_law_41 20 rfl rfl)
theorem dL_law_1155 : decode cL_law 1155 = .ok (.iconst 1, 1) := dk_4 (dk_at dksL_law_41 22 rfl rfl)
theorem dL_law_1156 : decode cL_law 1156 = .ok (.iadd, 1) := dk_96 (dk_at dksL_law_41 23 rfl rfl)
theorem dL_law_1157 : decode cL_law 1157 = .ok (.iaload, 1) := dk_46 (dk_at dksL_law_42 0 rfl rfl)
theorem dL_law_1158 : decode cL_law 1158 = .ok (.aload_n 0, 1) := dk_42 (dk_at dksL_law_42 1 rfl rfl)
theorem dL_law_1159 : decode cL_law 1159 = .ok (.iload 4, 2) := dk_21 4 (dk_at dksL_law_42 2 rfl rfl)
theorem dL_law_1161 : decode cL_law 1161 = .ok (.iconst 2, 1) := dk_5 (dk_at dksL_law_42 4 rfl rfl)
theorem dL_law_1162 : decode cL_law 1162 = .ok (.iadd, 1) := dk_96 (dk_at dksL_law_42 5 rfl rfl)
theorem dL_law_1163 : decode cL_law 1163 = .ok (.iaload, 1) := dk_46 (dk_at dksL_law_42 6 rfl rfl)
theorem dL_law_1164 : decode cL_law 1164 = .ok (.invokevirtual 110, 3) := dk_182 0 110 (dk_at dksL_law_42 7 rfl rfl)
theorem dL_law_1167 : decode cL_law 1167 = .ok (.aload_n 2, 1) := dk_44 (dk_at dksL_law_42 10 rfl rfl)
theorem dL_law_1168 : decode cL_law 1168 = .ok (.aload_n 0, 1) := dk_42 (dk_at dksL_law_42 11 rfl rfl)
theorem dL_law_1169 : decode cL_law 1169 = .ok (.iload 4, 2) := dk_21 4 (dk_at dksL_law_42 12 rfl rfl)
theorem dL_law_1171 : decode cL_law 1171 = .ok (.iconst 1, 1) := dk_4 (dk_at dksL_law_42 14 rfl rfl)
theorem dL_law_1172 : decode cL_law 1172 = .ok (.iadd, 1) := dk_96 (dk_at dksL_law_42 15 rfl rfl)
theorem dL_law_1173 : decode cL_law 1173 = .ok (.iaload, 1) := dk_46 (dk_at dksL_law_42 16 rfl rfl)
theorem dL_law_1174 : decode cL_law 1174 = .ok (.aload_n 0, 1) := dk_42 (dk_at dksL_law_42 17 rfl rfl)
theorem dL_law_1175 : decode cL_law 1175 = .ok (.iload 4, 2) := dk_21 4 (dk_at dksL_law_42 18 rfl rfl)
theorem dL_law_1177 : decode cL_law 1177 = .ok (.iconst 2, 1) := dk_5 (dk_at dksL_law_42 20 rfl rfl)
theorem dL_law_1178 : decode cL_law 1178 = .ok (.iadd, 1) := dk_96 (dk_at dksL_law_42 21 rfl rfl)
theorem dL_law_1179 : decode cL_law 1179 = .ok (.iaload, 1) := dk_46 (dk_at dksL_law_42 22 rfl rfl)
theorem dL_law_1180 : decode cL_law 1180 = .ok (.invokevirtual 113, 3) := dk_182 0 113 (dk_at dksL_law_43 0 rfl rfl)
theorem dL_law_1183 : decode cL_law 1183 = .ok (.if_icmp .eq 771, 3) := dk_159 3 3 (dk_at dksL_law_43 3 rfl rfl)
theorem dL_law_1186 : decode cL_law 1186 = .ok (.iconst 0, 1) := dk_3 (dk_at dksL_law_43 6 rfl rfl)
theorem dL_law_1187 : decode cL_law 1187 = .ok (.ireturn, 1) := dk_172 (dk_at dksL_law_43 7 rfl rfl)
theorem dL_law_1188 : decode cL_law 1188 = .ok (.aload_n 1, 1) := dk_43 (dk_at dksL_law_43 8 rfl rfl)
theorem dL_law_1189 : decode cL_law 1189 = .ok (.aload_n 0, 1) := dk_42 (dk_at dksL_law_43 9 rfl rfl)
theorem dL_law_1190 : decode cL_law 1190 = .ok (.iload 4, 2) := dk_21 4 (dk_at dksL_law_43 10 rfl rfl)
theorem dL_law_1192 : decode cL_law 1192 = .ok (.iconst 1, 1) := dk_4 (dk_at dksL_law_43 12 rfl rfl)
theorem dL_law_1193 : decode cL_law 1193 = .ok (.iadd, 1) := dk_96 (dk_at dksL_law_43 13 rfl rfl)
theorem dL_law_1194 : decode cL_law 1194 = .ok (.iaload, 1) := dk_46 (dk_at dksL_law_43 14 rfl rfl)
theorem dL_law_1195 : decode cL_law 1195 = .ok (.aload_n 0, 1) := dk_42 (dk_at dksL_law_43 15 rfl rfl)
theorem dL_law_1196 : decode cL_law 1196 = .ok (.iload 4, 2) := dk_21 4 (dk_at dksL_law_43 16 rfl rfl)
theorem dL_law_1198 : decode cL_law 1198 = .ok (.iconst 2, 1) := dk_5 (dk_at dksL_law_43 18 rfl rfl)
theorem dL_law_1199 : decode cL_law 1199 = .ok (.iadd, 1) := dk_96 (dk_at dksL_law_43 19 rfl rfl)
theorem dL_law_1200 : decode cL_law 1200 = .ok (.iaload, 1) := dk_46 (dk_at dksL_law_43 20 rfl rfl)
theorem dL_law_1201 : decode cL_law 1201 = .ok (.aload_n 0, 1) := dk_42 (dk_at dksL_law_43 21 rfl rfl)
theorem dL_law_1202 : decode cL_law 1202 = .ok (.iload 4, 2) := dk_21 4 (dk_at dksL_law_43 22 rfl rfl)
theorem dL_law_1204 : decode cL_law 1204 = .ok (.iconst 3, 1) := dk_6 (dk_at dksL_law_44 0 rfl rfl)
theorem dL_law_1205 : decode cL_law 1205 = .ok (.iadd, 1) := dk_96 (dk_at dksL_law_44 1 rfl rfl)
theorem dL_law_1206 : decode cL_law 1206 = .ok (.iaload, 1) := dk_46 (dk_at dksL_law_44 2 rfl rfl)
theorem dL_law_1207 : decode cL_law 1207 = .ok (.aload_n 0, 1) := dk_42 (dk_at dksL_law_44 3 rfl rfl)
theorem dL_law_1208 : decode cL_law 1208 = .ok (.iload 4, 2) := dk_21 4 (dk_at dksL_law_44 4 rfl rfl)
theorem dL_law_1210 : decode cL_law 1210 = .ok (.iconst 4, 1) := dk_7 (dk_at dksL_law_44 6 rfl rfl)
theorem dL_law_1211 : decode cL_law 1211 = .ok (.iadd, 1) := dk_96 (dk_at dksL_law_44 7 rfl rfl)
theorem dL_law_1212 : decode cL_law 1212 = .ok (.iaload, 1) := dk_46 (dk_at dksL_law_44 8 rfl rfl)
theorem dL_law_1213 : decode cL_law 1213 = .ok (.ifCond .eq 7, 3) := dk_153 0 7 (dk_at dksL_law_44 9 rfl rfl)
theorem dL_law_1216 : decode cL_law 1216 = .ok (.iconst 1, 1) := dk_4 (dk_at dksL_law_44 12 rfl rfl)
theorem dL_law_1217 : decode cL_law 1217 = .ok (.goto 4, 3) := dk_167 0 4 (dk_at dksL_law_44 13 rfl rfl)
theorem dL_law_1220 : decode cL_law 1220 = .ok (.iconst 0, 1) := dk_3 (dk_at dksL_law_44 16 rfl rfl)
theorem dL_law_1221 : decode cL_law 1221 = .ok (.invokevirtual 114, 3) := dk_182 0 114 (dk_at dksL_law_44 17 rfl rfl)
theorem dL_law_1224 : decode cL_law 1224 = .ok (.aload_n 2, 1) := dk_44 (dk_at dksL_law_44 20 rfl rfl)
theorem dL_law_1225 : decode cL_law 1225 = .ok (.aload_n 0, 1) := dk_42 (dk_at dksL_law_44 21 rfl rfl)
theorem dL_law_1226 : decode cL_law 1226 = .ok (.iload 4, 2) := dk_21 4 (dk_at dksL_law_44 22 rfl rfl)
theorem dL_law_1228 : decode cL_law 1228 = .ok (.iconst 1, 1) := dk_4 (dk_at dksL_law_45 0 rfl rfl)
theorem dL_law_1229 : decode cL_law 1229 = .ok (.iadd, 1) := dk_96 (dk_at dksL_law_45 1 rfl rfl)
theorem dL_law_1230 : decode cL_law 1230 = .ok (.iaload, 1) := dk_46 (dk_at dksL_law_45 2 rfl rfl)
theorem dL_law_1231 : decode cL_law 1231 = .ok (.aload_n 0, 1) := dk_42 (dk_at dksL_law_45 3 rfl rfl)
theorem dL_law_1232 : decode cL_law 1232 = .ok (.iload 4, 2) := dk_21 4 (dk_at dksL_law_45 4 rfl rfl)
theorem dL_law_1234 : decode cL_law 1234 = .ok (.iconst 2, 1) := dk_5 (dk_at dksL_law_45 6 rfl rfl)
theorem dL_law_1235 : decode cL_law 1235 = .ok (.iadd, 1) := dk_96 (dk_at dksL_law_45 7 rfl rfl)
theorem dL_law_1236 : decode cL_law 1236 = .ok (.iaload, 1) := dk_46 (dk_at dksL_law_45 8 rfl rfl)
theorem dL_law_1237 : decode cL_law 1237 = .ok (.aload_n 0, 1) := dk_42 (dk_at dksL_law_45 9 rfl rfl)
theorem dL_law_1238 : decode cL_law 1238 = .ok (.iload 4, 2) := dk_21 4 (dk_at dksL_law_45 10 rfl rfl)
theorem dL_law_1240 : decode cL_law 1240 = .ok (.iconst 3, 1) := dk_6 (dk_at dksL_law_45 12 rfl rfl)
theorem dL_law_1241 : decode cL_law 1241 = .ok (.iadd, 1) := dk_96 (dk_at dksL_law_45 13 rfl rfl)
theorem dL_law_1242 : decode cL_law 1242 = .ok (.iaload, 1) := dk_46 (dk_at dksL_law_45 14 rfl rfl)
theorem dL_law_1243 : decode cL_law 1243 = .ok (.aload_n 0, 1) := dk_42 (dk_at dksL_law_45 15 rfl rfl)
theorem dL_law_1244 : decode cL_law 1244 = .ok (.iload 4, 2) := dk_21 4 (dk_at dksL_law_45 16 rfl rfl)
theorem dL_law_1246 : decode cL_law 1246 = .ok (.iconst 4, 1) := dk_7 (dk_at dksL_law_45 18 rfl rfl)
theorem dL_law_1247 : decode cL_law 1247 = .ok (.iadd, 1) := dk_96 (dk_at dksL_law_45 19 rfl rfl)
theorem dL_law_1248 : decode cL_law 1248 = .ok (.iaload, 1) := dk_46 (dk_at dksL_law_45 20 rfl rfl)
theorem dL_law_1249 : decode cL_law 1249 = .ok (.ifCond .eq 7, 3) := dk_153 0 7 (dk_at dksL_law_45 21 rfl rfl)
theorem dL_law_1252 : decode cL_law 1252 = .ok (.iconst 1, 1) := dk_4 (dk_at dksL_law_46 0 rfl rfl)
theorem dL_law_1253 : decode cL_law 1253 = .ok (.goto 4, 3) := dk_167 0 4 (dk_at dksL_law_46 1 rfl rfl)
theorem dL_law_1256 : decode cL_law 1256 = .ok (.iconst 0, 1) := dk_3 (dk_at dksL_law_46 4 rfl rfl)
theorem dL_law_1257 : decode cL_law 1257 = .ok (.invokevirtual 118, 3) := dk_182 0 118 (dk_at dksL_law_46 5 rfl rfl)
theorem dL_law_1260 : decode cL_law 1260 = .ok (.if_icmp .eq 694, 3) := dk_159 2 182 (dk_at dksL_law_46 8 rfl rfl)
theorem dL_law_1263 : decode cL_law 1263 = .ok (.iconst 0, 1) := dk_3 (dk_at dksL_law_46 11 rfl rfl)
theorem dL_law_1264 : decode cL_law 1264 = .ok (.ireturn, 1) := dk_172 (dk_at dksL_law_46 12 rfl rfl)
theorem dL_law_1265 : decode cL_law 1265 = .ok (.aload_n 1, 1) := dk_43 (dk_at dksL_law_46 13 rfl rfl)
theorem dL_law_1266 : decode cL_law 1266 = .ok (.aload_n 0, 1) := dk_42 (dk_at dksL_law_46 14 rfl rfl)
theorem dL_law_1267 : decode cL_law 1267 = .ok (.iload 4, 2) := dk_21 4 (dk_at dksL_law_46 15 rfl rfl)
theorem dL_law_1269 : decode cL_law 1269 = .ok (.iconst 1, 1) := dk_4 (dk_at dksL_law_46 17 rfl rfl)
theorem dL_law_1270 : decode cL_law 1270 = .ok (.iadd, 1) := dk_96 (dk_at dksL_law_46 18 rfl rfl)
theorem dL_law_1271 : decode cL_law 1271 = .ok (.iaload, 1) := dk_46 (dk_at dksL_law_46 19 rfl rfl)
theorem dL_law_1272 : decode cL_law 1272 = .ok (.aload_n 0, 1) := dk_42 (dk_at dksL_law_46 20 rfl rfl)
theorem dL_law_1273 : decode cL_law 1273 = .ok (.iload 4, 2) := dk_21 4 (dk_at dksL_law_46 21 rfl rfl)
theorem dL_law_1275 : decode cL_law 1275 = .ok (.iconst 2, 1) := dk_5 (dk_at dksL_law_46 23 rfl rfl)
theorem dL_law_1276 : decode cL_law 1276 = .ok (.iadd, 1) := dk_96 (dk_at dksL_law_47 0 rfl rfl)
theorem dL_law_1277 : decode cL_law 1277 = .ok (.iaload, 1) := dk_46 (dk_at dksL_law_47 1 rfl rfl)
theorem dL_law_1278 : decode cL_law 1278 = .ok (.invokevirtual 119, 3) := dk_182 0 119 (dk_at dksL_law_47 2 rfl rfl)
theorem dL_law_1281 : decode cL_law 1281 = .ok (.aload_n 2, 1) := dk_44 (dk_at dksL_law_47 5 rfl rfl)
theorem dL_law_1282 : decode cL_law 1282 = .ok (.aload_n 0, 1) := dk_42 (dk_at dksL_law_47 6 rfl rfl)
theorem dL_law_1283 : decode cL_law 1283 = .ok (.iload 4, 2) := dk_21 4 (dk_at dksL_law_47 7 rfl rfl)
theorem dL_law_1285 : decode cL_law 1285 = .ok (.iconst 1, 1) := dk_4 (dk_at dksL_law_47 9 rfl rfl)
theorem dL_law_1286 : decode cL_law 1286 = .ok (.iadd, 1) := dk_96 (dk_at dksL_law_47 10 rfl rfl)
theorem dL_law_1287 : decode cL_law 1287 = .ok (.iaload, 1) := dk_46 (dk_at dksL_law_47 11 rfl rfl)
theorem dL_law_1288 : decode cL_law 1288 = .ok (.aload_n 0, 1) := dk_42 (dk_at dksL_law_47 12 rfl rfl)
theorem dL_law_1289 : decode cL_law 1289 = .ok (.iload 4, 2) := dk_21 4 (dk_at dksL_law_47 13 rfl rfl)
theorem dL_law_1291 : decode cL_law 1291 = .ok (.iconst 2, 1) := dk_5 (dk_at dksL_law_47 15 rfl rfl)
theorem dL_law_1292 : decode cL_law 1292 = .ok (.iadd, 1) := dk_96 (dk_at dksL_law_47 16 rfl rfl)
theorem dL_law_1293 : decode cL_law 1293 = .ok (.iaload, 1) := dk_46 (dk_at dksL_law_47 17 rfl rfl)
theorem dL_law_1294 : decode cL_law 1294 = .ok (.invokevirtual 122, 3) := dk_182 0 122 (dk_at dksL_law_47 18 rfl rfl)
theorem dL_law_1297 : decode cL_law 1297 = .ok (.if_icmp .eq 657, 3) := dk_159 2 145 (dk_at dksL_law_47 21 rfl rfl)
theorem dL_law_1300 : decode cL_law 1300 = .ok (.iconst 0, 1) := dk_3 (dk_at dksL_law_48 0 rfl rfl)
theorem dL_law_1301 : decode cL_law 1301 = .ok (.ireturn, 1) := dk_172 (dk_at dksL_law_48 1 rfl rfl)
theorem dL_law_1302 : decode cL_law 1302 = .ok (.aload_n 1, 1) := dk_43 (dk_at dksL_law_48 2 rfl rfl)
theorem dL_law_1303 : decode cL_law 1303 = .ok (.invokevirtual 123, 3) := dk_182 0 123 (dk_at dksL_law_48 3 rfl rfl)
theorem dL_law_1306 : decode cL_law 1306 = .ok (.aload_n 2, 1) := dk_44 (dk_at dksL_law_48 6 rfl rfl)
theorem dL_law_1307 : decode cL_law 1307 = .ok (.invokevirtual 126, 3) := dk_182 0 126 (dk_at dksL_law_48 7 rfl rfl)
theorem dL_law_1310 : decode cL_law 1310 = .ok (.if_icmp .eq 644, 3) := dk_159 2 132 (dk_at dksL_law_48 10 rfl rfl)
theorem dL_law_1313 : decode cL_law 1313 = .ok (.iconst 0, 1) := dk_3 (dk_at dksL_law_48 13 rfl rfl)
theorem dL_law_1314 : decode cL_law 1314 = .ok (.ireturn, 1) := dk_172 (dk_at dksL_law_48 14 rfl rfl)
theorem dL_law_1315 : decode cL_law 1315 = .ok (.aload_n 1, 1) := dk_43 (dk_at dksL_law_48 15 rfl rfl)
theorem dL_law_1316 : decode cL_law 1316 = .ok (.invokevirtual 127, 3) := dk_182 0 127 (dk_at dksL_law_48 16 rfl rfl)
theorem dL_law_1319 : decode cL_law 1319 = .ok (.aload_n 2, 1) := dk_44 (dk_at dksL_law_48 19 rfl rfl)
theorem dL_law_1320 : decode cL_law 1320 = .ok (.invokevirtual 130, 3) := dk_182 0 130 (dk_at dksL_law_48 20 rfl rfl)
theorem dL_law_1323 : decode cL_law 1323 = .ok (.if_icmp .eq 631, 3) := dk_159 2 119 (dk_at dksL_law_49 0 rfl rfl)
theorem dL_law_1326 : decode cL_law 1326 = .ok (.iconst 0, 1) := dk_3 (dk_at dksL_law_49 3 rfl rfl)
theorem dL_law_1327 : decode cL_law 1327 = .ok (.ireturn, 1) := dk_172 (dk_at dksL_law_49 4 rfl rfl)
theorem dL_law_1328 : decode cL_law 1328 = .ok (.aload_n 1, 1) := dk_43 (dk_at dksL_law_49 5 rfl rfl)
theorem dL_law_1329 : decode cL_law 1329 = .ok (.aload_n 0, 1) := dk_42 (dk_at dksL_law_49 6 rfl rfl)
theorem dL_law_1330 : decode cL_law 1330 = .ok (.iload 4, 2) := dk_21 4 (dk_at dksL_law_49 7 rfl rfl)
theorem dL_law_1332 : decode cL_law 1332 = .ok (.iconst 1, 1) := dk_4 (dk_at dksL_law_49 9 rfl rfl)
theorem dL_law_1333 : decode cL_law 1333 = .ok (.iadd, 1) := dk_96 (dk_at dksL_law_49 10 rfl rfl)
theorem dL_law_1334 : decode cL_law 1334 = .ok (.iaload, 1) := dk_46 (dk_at dksL_law_49 11 rfl rfl)
theorem dL_law_1335 : decode cL_law 1335 = .ok (.aload_n 0, 1) := dk_42 (dk_at dksL_law_49 12 rfl rfl)
theorem dL_law_1336 : decode cL_law 1336 = .ok (.iload 4, 2) := dk_21 4 (dk_at dksL_law_49 13 rfl rfl)
theorem dL_law_1338 : decode cL_law 1338 = .ok (.iconst 2, 1) := dk_5 (dk_at dksL_law_49 15 rfl rfl)
theorem dL_law_1339 : decode cL_law 1339 = .ok (.iadd, 1) := dk_96 (dk_at dksL_law_49 16 rfl rfl)
theorem dL_law_1340 : decode cL_law 1340 = .ok (.iaload, 1) := dk_46 (dk_at dksL_law_49 17 rfl rfl)
theorem dL_law_1341 : decode cL_law 1341 = .ok (.aload_n 0, 1) := dk_42 (dk_at dksL_law_49 18 rfl rfl)
theorem dL_law_1342 : decode cL_law 1342 = .ok (.iload 4, 2) := dk_21 4 (dk_at dksL_law_49 19 rfl rfl)
theorem dL_law_1344 : decode cL_law 1344 = .ok (.iconst 3, 1) := dk_6 (dk_at dksL_law_49 21 rfl rfl)
theorem dL_law_1345 : decode cL_law 1345 = .ok (.iadd, 1) := dk_96 (dk_at dksL_law_49 22 rfl rfl)
theorem dL_law_1346 : decode cL_law 1346 = .ok (.iaload, 1) := dk_46 (dk_at dksL_law_49 23 rfl rfl)
theorem dL_law_1347 : decode cL_law 1347 = .ok (.invokevirtual 131, 3) := dk_182 0 131 (dk_at dksL_law_50 0 rfl rfl)
theorem dL_law_1350 : decode cL_law 1350 = .ok (.aload_n 2, 1) := dk_44 (dk_at dksL_law_50 3 rfl rfl)
theorem dL_law_1351 : decode cL_law 1351 = .ok (.aload_n 0, 1) := dk_42 (dk_at dksL_law_50 4 rfl rfl)
theorem dL_law_1352 : decode cL_law 1352 = .ok (.iload 4, 2) := dk_21 4 (dk_at dksL_law_50 5 rfl rfl)
theorem dL_law_1354 : decode cL_law 1354 = .ok (.iconst 1, 1) := dk_4 (dk_at dksL_law_50 7 rfl rfl)
theorem dL_law_1355 : decode cL_law 1355 = .ok (.iadd, 1) := dk_96 (dk_at dksL_law_50 8 rfl rfl)
theorem dL_law_1356 : decode cL_law 1356 = .ok (.iaload, 1) := dk_46 (dk_at dksL_law_50 9 rfl rfl)
theorem dL_law_1357 : decode cL_law 1357 = .ok (.aload_n 0, 1) := dk_42 (dk_at dksL_law_50 10 rfl rfl)
theorem dL_law_1358 : decode cL_law 1358 = .ok (.iload 4, 2) := dk_21 4 (dk_at dksL_law_50 11 rfl rfl)
theorem dL_law_1360 : decode cL_law 1360 = .ok (.iconst 2, 1) := dk_5 (dk_at dksL_law_50 13 rfl rfl)
theorem dL_law_1361 : decode cL_law 1361 = .ok (.iadd, 1) := dk_96 (dk_at dksL_law_50 14 rfl rfl)
theorem dL_law_1362 : decode cL_law 1362 = .ok (.iaload, 1) := dk_46 (dk_at dksL_law_50 15 rfl rfl)
theorem dL_law_1363 : decode cL_law 1363 = .ok (.aload_n 0, 1) := dk_42 (dk_at dksL_law_50 16 rfl rfl)
theorem dL_law_1364 : decode cL_law 1364 = .ok (.iload 4, 2) := dk_21 4 (dk_at dksL_law_50 17 rfl rfl)
theorem dL_law_1366 : decode cL_law 1366 = .ok (.iconst 3, 1) := dk_6 (dk_at dksL_law_50 19 rfl rfl)
theorem dL_law_1367 : decode cL_law 1367 = .ok (.iadd, 1) := dk_96 (dk_at dksL_law_50 20 rfl rfl)
theorem dL_law_1368 : decode cL_law 1368 = .ok (.iaload, 1) := dk_46 (dk_at dksL_law_50 21 rfl rfl)
theorem dL_law_1369 : decode cL_law 1369 = .ok (.invokevirtual 134, 3) := dk_182 0 134 (dk_at dksL_law_51 0 rfl rfl)
theorem dL_law_1372 : decode cL_law 1372 = .ok (.if_icmp .eq 582, 3) := dk_159 2 70 (dk_at dksL_law_51 3 rfl rfl)
theorem dL_law_1375 : decode cL_law 1375 = .ok (.iconst 0, 1) := dk_3 (dk_at dksL_law_51 6 rfl rfl)
theorem dL_law_1376 : decode cL_law 1376 = .ok (.ireturn, 1) := dk_172 (dk_at dksL_law_51 7 rfl rfl)
theorem dL_law_1377 : decode cL_law 1377 = .ok (.aload_n 1, 1) := dk_43 (dk_at dksL_law_51 8 rfl rfl)
theorem dL_law_1378 : decode cL_law 1378 = .ok (.aload_n 0, 1) := dk_42 (dk_at dksL_law_51 9 rfl rfl)
theorem dL_law_1379 : decode cL_law 1379 = .ok (.iload 4, 2) := dk_21 4 (dk_at dksL_law_51 10 rfl rfl)
theorem dL_law_1381 : decode cL_law 1381 = .ok (.iconst 1, 1) := dk_4 (dk_at dksL_law_51 12 rfl rfl)
theorem dL_law_1382 : decode cL_law 1382 = .ok (.iadd, 1) := dk_96 (dk_at dksL_law_51 13 rfl rfl)
theorem dL_law_1383 : decode cL_law 1383 = .ok (.iaload, 1) := dk_46 (dk_at dksL_law_51 14 rfl rfl)
theorem dL_law_1384 : decode cL_law 1384 = .ok (.aload_n 0, 1) := dk_42 (dk_at dksL_law_51 15 rfl rfl)
theorem dL_law_1385 : decode cL_law 1385 = .ok (.iload 4, 2) := dk_21 4 (dk_at dksL_law_51 16 rfl rfl)
theorem dL_law_1387 : decode cL_law 1387 = .ok (.iconst 2, 1) := dk_5 (dk_at dksL_law_51 18 rfl rfl)
theorem dL_law_1388 : decode cL_law 1388 = .ok (.iadd, 1) := dk_96 (dk_at dksL_law_51 19 rfl rfl)
theorem dL_law_1389 : decode cL_law 1389 = .ok (.iaload, 1) := dk_46 (dk_at dksL_law_51 20 rfl rfl)
theorem dL_law_1390 : decode cL_law 1390 = .ok (.aload_n 0, 1) := dk_42 (dk_at dksL_law_51 21 rfl rfl)
theorem dL_law_1391 : decode cL_law 1391 = .ok (.iload 4, 2) := dk_21 4 (dk_at dksL_law_51 22 rfl rfl)
theorem dL_law_1393 : decode cL_law 1393 = .ok (.iconst 3, 1) := dk_6 (dk_at dksL_law_52 0 rfl rfl)
theorem dL_law_1394 : decode cL_law 1394 = .ok (.iadd, 1) := dk_96 (dk_at dksL_law_52 1 rfl rfl)
theorem dL_law_1395 : decode cL_law 1395 = .ok (.iaload, 1) := dk_46 (dk_at dksL_law_52 2 rfl rfl)
theorem dL_law_1396 : decode cL_law 1396 = .ok (.invokevirtual 135, 3) := dk_182 0 135 (dk_at dksL_law_52 3 rfl rfl)
theorem dL_law_1399 : decode cL_law 1399 = .ok (.aload_n 2, 1) := dk_44 (dk_at dksL_law_52 6 rfl rfl)
theorem dL_law_1400 : decode cL_law 1400 = .ok (.aload_n 0, 1) := dk_42 (dk_at dksL_law_52 7 rfl rfl)
theorem dL_law_1401 : decode cL_law 1401 = .ok (.iload 4, 2) := dk_21 4 (dk_at dksL_law_52 8 rfl rfl)
theorem dL_law_1403 : decode cL_law 1403 = .ok (.iconst 1, 1) := dk_4 (dk_at dksL_law_52 10 rfl rfl)
theorem dL_law_1404 : decode cL_law 1404 = .ok (.iadd, 1) := dk_96 (dk_at dksL_law_52 11 rfl rfl)
theorem dL_law_1405 : decode cL_law 1405 = .ok (.iaload, 1) := dk_46 (dk_at dksL_law_52 12 rfl rfl)
theorem dL_law_1406 : decode cL_law 1406 = .ok (.aload_n 0, 1) := dk_42 (dk_at dksL_law_52 13 rfl rfl)
theorem dL_law_1407 : decode cL_law 1407 = .ok (.iload 4, 2) := dk_21 4 (dk_at dksL_law_52 14 rfl rfl)
theorem dL_law_1409 : decode cL_law 1409 = .ok (.iconst 2, 1) := dk_5 (dk_at dksL_law_52 16 rfl rfl)
theorem dL_law_1410 : decode cL_law 1410 = .ok (.iadd, 1) := dk_96 (dk_at dksL_law_52 17 rfl rfl)
theorem dL_law_1411 : decode cL_law 1411 = .ok (.iaload, 1) := dk_46 (dk_at dksL_law_52 18 rfl rfl)
theorem dL_law_1412 : decode cL_law 1412 = .ok (.aload_n 0, 1) := dk_42 (dk_at dksL_law_52 19 rfl rfl)
theorem dL_law_1413 : decode cL_law 1413 = .ok (.iload 4, 2) := dk_21 4 (dk_at dksL_law_52 20 rfl rfl)
theorem dL_law_1415 : decode cL_law 1415 = .ok (.iconst 3, 1) := dk_6 (dk_at dksL_law_52 22 rfl rfl)
theorem dL_law_1416 : decode cL_law 1416 = .ok (.iadd, 1) := dk_96 (dk_at dksL_law_52 23 rfl rfl)
theorem dL_law_1417 : decode cL_law 1417 = .ok (.iaload, 1) := dk_46 (dk_at dksL_law_53 0 rfl rfl)
theorem dL_law_1418 : decode cL_law 1418 = .ok (.invokevirtual 138, 3) := dk_182 0 138 (dk_at dksL_law_53 1 rfl rfl)
theorem dL_law_1421 : decode cL_law 1421 = .ok (.if_icmp .eq 533, 3) := dk_159 2 21 (dk_at dksL_law_53 4 rfl rfl)
theorem dL_law_1424 : decode cL_law 1424 = .ok (.iconst 0, 1) := dk_3 (dk_at dksL_law_53 7 rfl rfl)
theorem dL_law_1425 : decode cL_law 1425 = .ok (.ireturn, 1) := dk_172 (dk_at dksL_law_53 8 rfl rfl)
theorem dL_law_1426 : decode cL_law 1426 = .ok (.aload_n 1, 1) := dk_43 (dk_at dksL_law_53 9 rfl rfl)
theorem dL_law_1427 : decode cL_law 1427 = .ok (.aload_n 0, 1) := dk_42 (dk_at dksL_law_53 10 rfl rfl)
theorem dL_law_1428 : decode cL_law 1428 = .ok (.iload 4, 2) := dk_21 4 (dk_at dksL_law_53 11 rfl rfl)
theorem dL_law_1430 : decode cL_law 1430 = .ok (.iconst 1, 1) := dk_4 (dk_at dksL_law_53 13 rfl rfl)
theorem dL_law_1431 : decode cL_law 1431 = .ok (.iadd, 1) := dk_96 (dk_at dksL_law_53 14 rfl rfl)
theorem dL_law_1432 : decode cL_law 1432 = .ok (.iaload, 1) := dk_46 (dk_at dksL_law_53 15 rfl rfl)
theorem dL_law_1433 : decode cL_law 1433 = .ok (.aload_n 0, 1) := dk_42 (dk_at dksL_law_53 16 rfl rfl)
theorem dL_law_1434 : decode cL_law 1434 = .ok (.iload 4, 2) := dk_21 4 (dk_at dksL_law_53 17 rfl rfl)
theorem dL_law_1436 : decode cL_law 1436 = .ok (.iconst 2, 1) := dk_5 (dk_at dksL_law_53 19 rfl rfl)
theorem dL_law_1437 : decode cL_law 1437 = .ok (.iadd, 1) := dk_96 (dk_at dksL_law_53 20 rfl rfl)
theorem dL_law_1438 : decode cL_law 1438 = .ok (.iaload, 1) := dk_46 (dk_at dksL_law_53 21 rfl rfl)
theorem dL_law_1439 : decode cL_law 1439 = .ok (.aload_n 0, 1) := dk_42 (dk_at dksL_law_53 22 rfl rfl)
theorem dL_law_1440 : decode cL_law 1440 = .ok (.iload 4, 2) := dk_21 4 (dk_at dksL_law_54 0 rfl rfl)
theorem dL_law_1442 : decode cL_law 1442 = .ok (.iconst 3, 1) := dk_6 (dk_at dksL_law_54 2 rfl rfl)
theorem dL_law_1443 : decode cL_law 1443 = .ok (.iadd, 1) := dk_96 (dk_at dksL_law_54 3 rfl rfl)
theorem dL_law_1444 : decode cL_law 1444 = .ok (.iaload, 1) := dk_46 (dk_at dksL_law_54 4 rfl rfl)
theorem dL_law_1445 : decode cL_law 1445 = .ok (.invokevirtual 139, 3) := dk_182 0 139 (dk_at dksL_law_54 5 rfl rfl)
theorem dL_law_1448 : decode cL_law 1448 = .ok (.aload_n 2, 1) := dk_44 (dk_at dksL_law_54 8 rfl rfl)
theorem dL_law_1449 : decode cL_law 1449 = .ok (.aload_n 0, 1) := dk_42 (dk_at dksL_law_54 9 rfl rfl)
theorem dL_law_1450 : decode cL_law 1450 = .ok (.iload 4, 2) := dk_21 4 (dk_at dksL_law_54 10 rfl rfl)
theorem dL_law_1452 : decode cL_law 1452 = .ok (.iconst 1, 1) := dk_4 (dk_at dksL_law_54 12 rfl rfl)
theorem dL_law_1453 : decode cL_law 1453 = .ok (.iadd, 1) := dk_96 (dk_at dksL_law_54 13 rfl rfl)
theorem dL_law_1454 : decode cL_law 1454 = .ok (.iaload, 1) := dk_46 (dk_at dksL_law_54 14 rfl rfl)
theorem dL_law_1455 : decode cL_law 1455 = .ok (.aload_n 0, 1) := dk_42 (dk_at dksL_law_54 15 rfl rfl)
theorem dL_law_1456 : decode cL_law 1456 = .ok (.iload 4, 2) := dk_21 4 (dk_at dksL_law_54 16 rfl rfl)
theorem dL_law_1458 : decode cL_law 1458 = .ok (.iconst 2, 1) := dk_5 (dk_at dksL_law_54 18 rfl rfl)
theorem dL_law_1459 : decode cL_law 1459 = .ok (.iadd, 1) := dk_96 (dk_at dksL_law_54 19 rfl rfl)
theorem dL_law_1460 : decode cL_law 1460 = .ok (.iaload, 1) := dk_46 (dk_at dksL_law_54 20 rfl rfl)
theorem dL_law_1461 : decode cL_law 1461 = .ok (.aload_n 0, 1) := dk_42 (dk_at dksL_law_54 21 rfl rfl)
theorem dL_law_1462 : decode cL_law 1462 = .ok (.iload 4, 2) := dk_21 4 (dk_at dksL_law_54 22 rfl rfl)
theorem dL_law_1464 : decode cL_law 1464 = .ok (.iconst 3, 1) := dk_6 (dk_at dksL_law_55 0 rfl rfl)
theorem dL_law_1465 : decode cL_law 1465 = .ok (.iadd, 1) := dk_96 (dk_at dksL_law_55 1 rfl rfl)
theorem dL_law_1466 : decode cL_law 1466 = .ok (.iaload, 1) := dk_46 (dk_at dksL_law_55 2 rfl rfl)
theorem dL_law_1467 : decode cL_law 1467 = .ok (.invokevirtual 142, 3) := dk_182 0 142 (dk_at dksL_law_55 3 rfl rfl)
theorem dL_law_1470 : decode cL_law 1470 = .ok (.if_icmp .eq 484, 3) := dk_159 1 228 (dk_at dksL_law_55 6 rfl rfl)
theorem dL_law_1473 : decode cL_law 1473 = .ok (.iconst 0, 1) := dk_3 (dk_at dksL_law_55 9 rfl rfl)
theorem dL_law_1474 : decode cL_law 1474 = .ok (.ireturn, 1) := dk_172 (dk_at dksL_law_55 10 rfl rfl)
theorem dL_law_1475 : decode cL_law 1475 = .ok (.aload_n 1, 1) := dk_43 (dk_at dksL_law_55 11 rfl rfl)
theorem dL_law_1476 : decode cL_law 1476 = .ok (.aload_n 0, 1) := dk_42 (dk_at dksL_law_55 12 rfl rfl)
theorem dL_law_1477 : decode cL_law 1477 = .ok (.iload 4, 2) := dk_21 4 (dk_at dksL_law_55 13 rfl rfl)
theorem dL_law_1479 : decode cL_law 1479 = .ok (.iconst 1, 1) := dk_4 (dk_at dksL_law_55 15 rfl rfl)
theorem dL_law_1480 : decode cL_law 1480 = .ok (.iadd, 1) := dk_96 (dk_at dksL_law_55 16 rfl rfl)
theorem dL_law_1481 : decode cL_law 1481 = .ok (.iaload, 1) := dk_46 (dk_at dksL_law_55 17 rfl rfl)
theorem dL_law_1482 : decode cL_law 1482 = .ok (.aload_n 0, 1) := dk_42 (dk_at dksL_law_55 18 rfl rfl)
theorem dL_law_1483 : decode cL_law 1483 = .ok (.iload 4, 2) := dk_21 4 (dk_at dksL_law_55 19 rfl rfl)
theorem dL_law_1485 : decode cL_law 1485 = .ok (.iconst 2, 1) := dk_5 (dk_at dksL_law_55 21 rfl rfl)
theorem dL_law_1486 : decode cL_law 1486 = .ok (.iadd, 1) := dk_96 (dk_at dksL_law_55 22 rfl rfl)
theorem dL_law_1487 : decode cL_law 1487 = .ok (.iaload, 1) := dk_46 (dk_at dksL_law_55 23 rfl rfl)
theorem dL_law_1488 : decode cL_law 1488 = .ok (.invokevirtual 143, 3) := dk_182 0 143 (dk_at dksL_law_56 0 rfl rfl)
theorem dL_law_1491 : decode cL_law 1491 = .ok (.aload_n 2, 1) := dk_44 (dk_at dksL_law_56 3 rfl rfl)
theorem dL_law_1492 : decode cL_law 1492 = .ok (.aload_n 0, 1) := dk_42 (dk_at dksL_law_56 4 rfl rfl)
theorem dL_law_1493 : decode cL_law 1493 = .ok (.iload 4, 2) := dk_21 4 (dk_at dksL_law_56 5 rfl rfl)
theorem dL_law_1495 : decode cL_law 1495 = .ok (.iconst 1, 1) := dk_4 (dk_at dksL_law_56 7 rfl rfl)
theorem dL_law_1496 : decode cL_law 1496 = .ok (.iadd, 1) := dk_96 (dk_at dksL_law_56 8 rfl rfl)
theorem dL_law_1497 : decode cL_law 1497 = .ok (.iaload, 1) := dk_46 (dk_at dksL_law_56 9 rfl rfl)
theorem dL_law_1498 : decode cL_law 1498 = .ok (.aload_n 0, 1) := dk_42 (dk_at dksL_law_56 10 rfl rfl)
theorem dL_law_1499 : decode cL_law 1499 = .ok (.iload 4, 2) := dk_21 4 (dk_at dksL_law_56 11 rfl rfl)
theorem dL_law_1501 : decode cL_law 1501 = .ok (.iconst 2, 1) := dk_5 (dk_at dksL_law_56 13 rfl rfl)
theorem dL_law_1502 : decode cL_law 1502 = .ok (.iadd, 1) := dk_96 (dk_at dksL_law_56 14 rfl rfl)
theorem dL_law_1503 : decode cL_law 1503 = .ok (.iaload, 1) := dk_46 (dk_at dksL_law_56 15 rfl rfl)
theorem dL_law_1504 : decode cL_law 1504 = .ok (.invokevirtual 146, 3) := dk_182 0 146 (dk_at dksL_law_56 16 rfl rfl)
theorem dL_law_1507 : decode cL_law 1507 = .ok (.if_icmp .eq 447, 3) := dk_159 1 191 (dk_at dksL_law_56 19 rfl rfl)
theorem dL_law_1510 : decode cL_law 1510 = .ok (.iconst 0, 1) := dk_3 (dk_at dksL_law_56 22 rfl rfl)
theorem dL_law_1511 : decode cL_law 1511 = .ok (.ireturn, 1) := dk_172 (dk_at dksL_law_56 23 rfl rfl)
theorem dL_law_1512 : decode cL_law 1512 = .ok (.aload_n 1, 1) := dk_43 (dk_at dksL_law_57 0 rfl rfl)
theorem dL_law_1513 : decode cL_law 1513 = .ok (.aload_n 0, 1) := dk_42 (dk_at dksL_law_57 1 rfl rfl)
theorem dL_law_1514 : decode cL_law 1514 = .ok (.iload 4, 2) := dk_21 4 (dk_at dksL_law_57 2 rfl rfl)
theorem dL_law_1516 : decode cL_law 1516 = .ok (.iconst 1, 1) := dk_4 (dk_at dksL_law_57 4 rfl rfl)
theorem dL_law_1517 : decode cL_law 1517 = .ok (.iadd, 1) := dk_96 (dk_at dksL_law_57 5 rfl rfl)
theorem dL_law_1518 : decode cL_law 1518 = .ok (.iaload, 1) := dk_46 (dk_at dksL_law_57 6 rfl rfl)
theorem dL_law_1519 : decode cL_law 1519 = .ok (.aload_n 0, 1) := dk_42 (dk_at dksL_law_57 7 rfl rfl)
theorem dL_law_1520 : decode cL_law 1520 = .ok (.iload 4, 2) := dk_21 4 (dk_at dksL_law_57 8 rfl rfl)
theorem dL_law_1522 : decode cL_law 1522 = .ok (.iconst 2, 1) := dk_5 (dk_at dksL_law_57 10 rfl rfl)
theorem dL_law_1523 : decode cL_law 1523 = .ok (.iadd, 1) := dk_96 (dk_at dksL_law_57 11 rfl rfl)
theorem dL_law_1524 : decode cL_law 1524 = .ok (.iaload, 1) := dk_46 (dk_at dksL_law_57 12 rfl rfl)
theorem dL_law_1525 : decode cL_law 1525 = .ok (.invokevirtual 147, 3) := dk_182 0 147 (dk_at dksL_law_57 13 rfl rfl)
theorem dL_law_1528 : decode cL_law 1528 = .ok (.aload_n 2, 1) := dk_44 (dk_at dksL_law_57 16 rfl rfl)
theorem dL_law_1529 : decode cL_law 1529 = .ok (.aload_n 0, 1) := dk_42 (dk_at dksL_law_57 17 rfl rfl)
theorem dL_law_1530 : decode cL_law 1530 = .ok (.iload 4, 2) := dk_21 4 (dk_at dksL_law_57 18 rfl rfl)
theorem dL_law_1532 : decode cL_law 1532 = .ok (.iconst 1, 1) := dk_4 (dk_at dksL_law_57 20 rfl rfl)
theorem dL_law_1533 : decode cL_law 1533 = .ok (.iadd, 1) := dk_96 (dk_at dksL_law_57 21 rfl rfl)
theorem dL_law_1534 : decode cL_law 1534 = .ok (.iaload, 1) := dk_46 (dk_at dksL_law_57 22 rfl rfl)
theorem dL_law_1535 : decode cL_law 1535 = .ok (.aload_n 0, 1) := dk_42 (dk_at dksL_law_57 23 rfl rfl)
theorem dL_law_1536 : decode cL_law 1536 = .ok (.iload 4, 2) := dk_21 4 (dk_at dksL_law_58 0 rfl rfl)
theorem dL_law_1538 : decode cL_law 1538 = .ok (.iconst 2, 1) := dk_5 (dk_at dksL_law_58 2 rfl rfl)
theorem dL_law_1539 : decode cL_law 1539 = .ok (.iadd, 1) := dk_96 (dk_at dksL_law_58 3 rfl rfl)
theorem dL_law_1540 : decode cL_law 1540 = .ok (.iaload, 1) := dk_46 (dk_at dksL_law_58 4 rfl rfl)
theorem dL_law_1541 : decode cL_law 1541 = .ok (.invokevirtual 150, 3) := dk_182 0 150 (dk_at dksL_law_58 5 rfl rfl)
theorem dL_law_1544 : decode cL_law 1544 = .ok (.if_icmp .eq 410, 3) := dk_159 1 154 (dk_at dksL_law_58 8 rfl rfl)
theorem dL_law_1547 : decode cL_law 1547 = .ok (.iconst 0, 1) := dk_3 (dk_at dksL_law_58 11 rfl rfl)
theorem dL_law_1548 : decode cL_law 1548 = .ok (.ireturn, 1) := dk_172 (dk_at dksL_law_58 12 rfl rfl)
theorem dL_law_1549 : decode cL_law 1549 = .ok (.aload_n 1, 1) := dk_43 (dk_at dksL_law_58 13 rfl rfl)
theorem dL_law_1550 : decode cL_law 1550 = .ok (.aload_n 0, 1) := dk_42 (dk_at dksL_law_58 14 rfl rfl)
theorem dL_law_1551 : decode cL_law 1551 = .ok (.iload 4, 2) := dk_21 4 (dk_at dksL_law_58 15 rfl rfl)
theorem dL_law_1553 : decode cL_law 1553 = .ok (.iconst 1, 1) := dk_4 (dk_at dksL_law_58 17 rfl rfl)
theorem dL_law_1554 : decode cL_law 1554 = .ok (.iadd, 1) := dk_96 (dk_at dksL_law_58 18 rfl rfl)
theorem dL_law_1555 : decode cL_law 1555 = .ok (.iaload, 1) := dk_46 (dk_at dksL_law_58 19 rfl rfl)
theorem dL_law_1556 : decode cL_law 1556 = .ok (.aload_n 0, 1) := dk_42 (dk_at dksL_law_58 20 rfl rfl)
theorem dL_law_1557 : decode cL_law 1557 = .ok (.iload 4, 2) := dk_21 4 (dk_at dksL_law_58 21 rfl rfl)
theorem dL_law_1559 : decode cL_law 1559 = .ok (.iconst 2, 1) := dk_5 (dk_at dksL_law_58 23 rfl rfl)
theorem dL_law_1560 : decode cL_law 1560 = .ok (.iadd, 1) := dk_96 (dk_at dksL_law_59 0 rfl rfl)
theorem dL_law_1561 : decode cL_law 1561 = .ok (.iaload, 1) := dk_46 (dk_at dksL_law_59 1 rfl rfl)
theorem dL_law_1562 : decode cL_law 1562 = .ok (.invokevirtual 151, 3) := dk_182 0 151 (dk_at dksL_law_59 2 rfl rfl)
theorem dL_law_1565 : decode cL_law 1565 = .ok (.aload_n 2, 1) := dk_44 (dk_at dksL_law_59 5 rfl rfl)
theorem dL_law_1566 : decode cL_law 1566 = .ok (.aload_n 0, 1) := dk_42 (dk_at dksL_law_59 6 rfl rfl)
theorem dL_law_1567 : decode cL_law 1567 = .ok (.iload 4, 2) := dk_21 4 (dk_at dksL_law_59 7 rfl rfl)
theorem dL_law_1569 : decode cL_law 1569 = .ok (.iconst 1, 1) := dk_4 (dk_at dksL_law_59 9 rfl rfl)
theorem dL_law_1570 : decode cL_law 1570 = .ok (.iadd, 1) := dk_96 (dk_at dksL_law_59 10 rfl rfl)
theorem dL_law_1571 : decode cL_law 1571 = .ok (.iaload, 1) := dk_46 (dk_at dksL_law_59 11 rfl rfl)
theorem dL_law_1572 : decode cL_law 1572 = .ok (.aload_n 0, 1) := dk_42 (dk_at dksL_law_59 12 rfl rfl)
theorem dL_law_1573 : decode cL_law 1573 = .ok (.iload 4, 2) := dk_21 4 (dk_at dksL_law_59 13 rfl rfl)
theorem dL_law_1575 : decode cL_law 1575 = .ok (.iconst 2, 1) := dk_5 (dk_at dksL_law_59 15 rfl rfl)
theorem dL_law_1576 : decode cL_law 1576 = .ok (.iadd, 1) := dk_96 (dk_at dksL_law_59 16 rfl rfl)
theorem dL_law_1577 : decode cL_law 1577 = .ok (.iaload, 1) := dk_46 (dk_at dksL_law_59 17 rfl rfl)
theorem dL_law_1578 : decode cL_law 1578 = .ok (.invokevirtual 154, 3) := dk_182 0 154 (dk_at dksL_law_59 18 rfl rfl)
theorem dL_law_1581 : decode cL_law 1581 = .ok (.if_icmp .eq 373, 3) := dk_159 1 117 (dk_at dksL_law_59 21 rfl rfl)
theorem dL_law_1584 : decode cL_law 1584 = .ok (.iconst 0, 1) := dk_3 (dk_at dksL_law_60 0 rfl rfl)
theorem dL_law_1585 : decode cL_law 1585 = .ok (.ireturn, 1) := dk_172 (dk_at dksL_law_60 1 rfl rfl)
theorem dL_law_1586 : decode cL_law 1586 = .ok (.aload_n 1, 1) := dk_43 (dk_at dksL_law_60 2 rfl rfl)
theorem dL_law_1587 : decode cL_law 1587 = .ok (.invokevirtual 155, 3) := dk_182 0 155 (dk_at dksL_law_60 3 rfl rfl)
theorem dL_law_1590 : decode cL_law 1590 = .ok (.aload_n 2, 1) := dk_44 (dk_at dksL_law_60 6 rfl rfl)
theorem dL_law_1591 : decode cL_law 1591 = .ok (.invokevirtual 158, 3) := dk_182 0 158 (dk_at dksL_law_60 7 rfl rfl)
theorem dL_law_1594 : decode cL_law 1594 = .ok (.if_icmp .eq 360, 3) := dk_159 1 104 (dk_at dksL_law_60 10 rfl rfl)
theorem dL_law_1597 : decode cL_law 1597 = .ok (.iconst 0, 1) := dk_3 (dk_at dksL_law_60 13 rfl rfl)
theorem dL_law_1598 : decode cL_law 1598 = .ok (.ireturn, 1) := dk_172 (dk_at dksL_law_60 14 rfl rfl)
theorem dL_law_1599 : decode cL_law 1599 = .ok (.aload_n 1, 1) := dk_43 (dk_at dksL_law_60 15 rfl rfl)
theorem dL_law_1600 : decode cL_law 1600 = .ok (.aload_n 0, 1) := dk_42 (dk_at dksL_law_60 16 rfl rfl)
theorem dL_law_1601 : decode cL_law 1601 = .ok (.iload 4, 2) := dk_21 4 (dk_at dksL_law_60 17 rfl rfl)
theorem dL_law_1603 : decode cL_law 1603 = .ok (.iconst 1, 1) := dk_4 (dk_at dksL_law_60 19 rfl rfl)
theorem dL_law_1604 : decode cL_law 1604 = .ok (.iadd, 1) := dk_96 (dk_at dksL_law_60 20 rfl rfl)
theorem dL_law_1605 : decode cL_law 1605 = .ok (.iaload, 1) := dk_46 (dk_at dksL_law_60 21 rfl rfl)
theorem dL_law_1606 : decode cL_law 1606 = .ok (.invokevirtual 159, 3) := dk_182 0 159 (dk_at dksL_law_61 0 rfl rfl)
theorem dL_law_1609 : decode cL_law 1609 = .ok (.aload_n 2, 1) := dk_44 (dk_at dksL_law_61 3 rfl rfl)
theorem dL_law_1610 : decode cL_law 1610 = .ok (.aload_n 0, 1) := dk_42 (dk_at dksL_law_61 4 rfl rfl)
theorem dL_law_1611 : decode cL_law 1611 = .ok (.iload 4, 2) := dk_21 4 (dk_at dksL_law_61 5 rfl rfl)
theorem dL_law_1613 : decode cL_law 1613 = .ok (.iconst 1, 1) := dk_4 (dk_at dksL_law_61 7 rfl rfl)
theorem dL_law_1614 : decode cL_law 1614 = .ok (.iadd, 1) := dk_96 (dk_at dksL_law_61 8 rfl rfl)
theorem dL_law_1615 : decode cL_law 1615 = .ok (.iaload, 1) := dk_46 (dk_at dksL_law_61 9 rfl rfl)
theorem dL_law_1616 : decode cL_law 1616 = .ok (.invokevirtual 162, 3) := dk_182 0 162 (dk_at dksL_law_61 10 rfl rfl)
theorem dL_law_1619 : decode cL_law 1619 = .ok (.if_icmp .eq 335, 3) := dk_159 1 79 (dk_at dksL_law_61 13 rfl rfl)
theorem dL_law_1622 : decode cL_law 1622 = .ok (.iconst 0, 1) := dk_3 (dk_at dksL_law_61 16 rfl rfl)
theorem dL_law_1623 : decode cL_law 1623 = .ok (.ireturn, 1) := dk_172 (dk_at dksL_law_61 17 rfl rfl)
theorem dL_law_1624 : decode cL_law 1624 = .ok (.aload_n 1, 1) := dk_43 (dk_at dksL_law_61 18 rfl rfl)
theorem dL_law_1625 : decode cL_law 1625 = .ok (.aload_n 0, 1) := dk_42 (dk_at dksL_law_61 19 rfl rfl)
theorem dL_law_1626 : decode cL_law 1626 = .ok (.iload 4, 2) := dk_21 4 (dk_at dksL_law_61 20 rfl rfl)
theorem dL_law_1628 : decode cL_law 1628 = .ok (.iconst 1, 1) := dk_4 (dk_at dksL_law_61 22 rfl rfl)
theorem dL_law_1629 : decode cL_law 1629 = .ok (.iadd, 1) := dk_96 (dk_at dksL_law_61 23 rfl rfl)
theorem dL_law_1630 : decode cL_law 1630 = .ok (.iaload, 1) := dk_46 (dk_at dksL_law_62 0 rfl rfl)
theorem dL_law_1631 : decode cL_law 1631 = .ok (.invokevirtual 163, 3) := dk_182 0 163 (dk_at dksL_law_62 1 rfl rfl)
theorem dL_law_1634 : decode cL_law 1634 = .ok (.aload_n 2, 1) := dk_44 (dk_at dksL_law_62 4 rfl rfl)
theorem dL_law_1635 : decode cL_law 1635 = .ok (.aload_n 0, 1) := dk_42 (dk_at dksL_law_62 5 rfl rfl)
theorem dL_law_1636 : decode cL_law 1636 = .ok (.iload 4, 2) := dk_21 4 (dk_at dksL_law_62 6 rfl rfl)
theorem dL_law_1638 : decode cL_law 1638 = .ok (.iconst 1, 1) := dk_4 (dk_at dksL_law_62 8 rfl rfl)
theorem dL_law_1639 : decode cL_law 1639 = .ok (.iadd, 1) := dk_96 (dk_at dksL_law_62 9 rfl rfl)
theorem dL_law_1640 : decode cL_law 1640 = .ok (.iaload, 1) := dk_46 (dk_at dksL_law_62 10 rfl rfl)
theorem dL_law_1641 : decode cL_law 1641 = .ok (.invokevirtual 166, 3) := dk_182 0 166 (dk_at dksL_law_62 11 rfl rfl)
theorem dL_law_1644 : decode cL_law 1644 = .ok (.if_icmp .eq 310, 3) := dk_159 1 54 (dk_at dksL_law_62 14 rfl rfl)
theorem dL_law_1647 : decode cL_law 1647 = .ok (.iconst 0, 1) := dk_3 (dk_at dksL_law_62 17 rfl rfl)
theorem dL_law_1648 : decode cL_law 1648 = .ok (.ireturn, 1) := dk_172 (dk_at dksL_law_62 18 rfl rfl)
theorem dL_law_1649 : decode cL_law 1649 = .ok (.aload_n 1, 1) := dk_43 (dk_at dksL_law_62 19 rfl rfl)
theorem dL_law_1650 : decode cL_law 1650 = .ok (.invokevirtual 167, 3) := dk_182 0 167 (dk_at dksL_law_62 20 rfl rfl)
theorem dL_law_1653 : decode cL_law 1653 = .ok (.aload_n 2, 1) := dk_44 (dk_at dksL_law_62 23 rfl rfl)
theorem dL_law_1654 : decode cL_law 1654 = .ok (.invokevirtual 170, 3) := dk_182 0 170 (dk_at dksL_law_63 0 rfl rfl)
theorem dL_law_1657 : decode cL_law 1657 = .ok (.if_icmp .eq 297, 3) := dk_159 1 41 (dk_at dksL_law_63 3 rfl rfl)
theorem dL_law_1660 : decode cL_law 1660 = .ok (.iconst 0, 1) := dk_3 (dk_at dksL_law_63 6 rfl rfl)
theorem dL_law_1661 : decode cL_law 1661 = .ok (.ireturn, 1) := dk_172 (dk_at dksL_law_63 7 rfl rfl)
theorem dL_law_1662 : decode cL_law 1662 = .ok (.aload_n 1, 1) := dk_43 (dk_at dksL_law_63 8 rfl rfl)
theorem dL_law_1663 : decode cL_law 1663 = .ok (.aload_n 0, 1) := dk_42 (dk_at dksL_law_63 9 rfl rfl)
theorem dL_law_1664 : decode cL_law 1664 = .ok (.iload 4, 2) := dk_21 4 (dk_at dksL_law_63 10 rfl rfl)
theorem dL_law_1666 : decode cL_law 1666 = .ok (.iconst 1, 1) := dk_4 (dk_at dksL_law_63 12 rfl rfl)
theorem dL_law_1667 : decode cL_law 1667 = .ok (.iadd, 1) := dk_96 (dk_at dksL_law_63 13 rfl rfl)
theorem dL_law_1668 : decode cL_law 1668 = .ok (.iaload, 1) := dk_46 (dk_at dksL_law_63 14 rfl rfl)
theorem dL_law_1669 : decode cL_law 1669 = .ok (.aload_n 0, 1) := dk_42 (dk_at dksL_law_63 15 rfl rfl)
theorem dL_law_1670 : decode cL_law 1670 = .ok (.iload 4, 2) := dk_21 4 (dk_at dksL_law_63 16 rfl rfl)
theorem dL_law_1672 : decode cL_law 1672 = .ok (.iconst 2, 1) := dk_5 (dk_at dksL_law_63 18 rfl rfl)
theorem dL_law_1673 : decode cL_law 1673 = .ok (.iadd, 1) := dk_96 (dk_at dksL_law_63 19 rfl rfl)
theorem dL_law_1674 : decode cL_law 1674 = .ok (.iaload, 1) := dk_46 (dk_at dksL_law_63 20 rfl rfl)
theorem dL_law_1675 : decode cL_law 1675 = .ok (.invokevirtual 171, 3) := dk_182 0 171 (dk_at dksL_law_63 21 rfl rfl)
theorem dL_law_1678 : decode cL_law 1678 = .ok (.aload_n 2, 1) := dk_44 (dk_at dksL_law_64 0 rfl rfl)
theorem dL_law_1679 : decode cL_law 1679 = .ok (.aload_n 0, 1) := dk_42 (dk_at dksL_law_64 1 rfl rfl)
theorem dL_law_1680 : decode cL_law 1680 = .ok (.iload 4, 2) := dk_21 4 (dk_at dksL_law_64 2 rfl rfl)
theorem dL_law_1682 : decode cL_law 1682 = .ok (.iconst 1, 1) := dk_4 (dk_at dksL_law_64 4 rfl rfl)
theorem dL_law_1683 : decode cL_law 1683 = .ok (.iadd, 1) := dk_96 (dk_at dksL_law_64 5 rfl rfl)
theorem dL_law_1684 : decode cL_law 1684 = .ok (.iaload, 1) := dk_46 (dk_at dksL_law_64 6 rfl rfl)
theorem dL_law_1685 : decode cL_law 1685 = .ok (.aload_n 0, 1) := dk_42 (dk_at dksL_law_64 7 rfl rfl)
theorem dL_law_1686 : decode cL_law 1686 = .ok (.iload 4, 2) := dk_21 4 (dk_at dksL_law_64 8 rfl rfl)
theorem dL_law_1688 : decode cL_law 1688 = .ok (.iconst 2, 1) := dk_5 (dk_at dksL_law_64 10 rfl rfl)
theorem dL_law_1689 : decode cL_law 1689 = .ok (.iadd, 1) := dk_96 (dk_at dksL_law_64 11 rfl rfl)
theorem dL_law_1690 : decode cL_law 1690 = .ok (.iaload, 1) := dk_46 (dk_at dksL_law_64 12 rfl rfl)
theorem dL_law_1691 : decode cL_law 1691 = .ok (.invokevirtual 174, 3) := dk_182 0 174 (dk_at dksL_law_64 13 rfl rfl)
theorem dL_law_1694 : decode cL_law 1694 = .ok (.if_icmp .eq 260, 3) := dk_159 1 4 (dk_at dksL_law_64 16 rfl rfl)
theorem dL_law_1697 : decode cL_law 1697 = .ok (.iconst 0, 1) := dk_3 (dk_at dksL_law_64 19 rfl rfl)
theorem dL_law_1698 : decode cL_law 1698 = .ok (.ireturn, 1) := dk_172 (dk_at dksL_law_64 20 rfl rfl)
theorem dL_law_1699 : decode cL_law 1699 = .ok (.aload_n 1, 1) := dk_43 (dk_at dksL_law_64 21 rfl rfl)
theorem dL_law_1700 : decode cL_law 1700 = .ok (.invokevirtual 175, 3) := dk_182 0 175 (dk_at dksL_law_65 0 rfl rfl)
theorem dL_law_1703 : decode cL_law 1703 = .ok (.aload_n 2, 1) := dk_44 (dk_at dksL_law_65 3 rfl rfl)
theorem dL_law_1704 : decode cL_law 1704 = .ok (.invokevirtual 178, 3) := dk_182 0 178 (dk_at dksL_law_65 4 rfl rfl)
theorem dL_law_1707 : decode cL_law 1707 = .ok (.if_icmp .eq 247, 3) := dk_159 0 247 (dk_at dksL_law_65 7 rfl rfl)
theorem dL_law_1710 : decode cL_law 1710 = .ok (.iconst 0, 1) := dk_3 (dk_at dksL_law_65 10 rfl rfl)
theorem dL_law_1711 : decode cL_law 1711 = .ok (.ireturn, 1) := dk_172 (dk_at dksL_law_65 11 rfl rfl)
theorem dL_law_1712 : decode cL_law 1712 = .ok (.aload_n 1, 1) := dk_43 (dk_at dksL_law_65 12 rfl rfl)
theorem dL_law_1713 : decode cL_law 1713 = .ok (.aload_n 0, 1) := dk_42 (dk_at dksL_law_65 13 rfl rfl)
theorem dL_law_1714 : decode cL_law 1714 = .ok (.iload 4, 2) := dk_21 4 (dk_at dksL_law_65 14 rfl rfl)
theorem dL_law_1716 : decode cL_law 1716 = .ok (.iconst 1, 1) := dk_4 (dk_at dksL_law_65 16 rfl rfl)
theorem dL_law_1717 : decode cL_law 1717 = .ok (.iadd, 1) := dk_96 (dk_at dksL_law_65 17 rfl rfl)
theorem dL_law_1718 : decode cL_law 1718 = .ok (.iaload, 1) := dk_46 (dk_at dksL_law_65 18 rfl rfl)
theorem dL_law_1719 : decode cL_law 1719 = .ok (.aload_n 0, 1) := dk_42 (dk_at dksL_law_65 19 rfl rfl)
theorem dL_law_1720 : decode cL_law 1720 = .ok (.iload 4, 2) := dk_21 4 (dk_at dksL_law_65 20 rfl rfl)
theorem dL_law_1722 : decode cL_law 1722 = .ok (.iconst 2, 1) := dk_5 (dk_at dksL_law_65 22 rfl rfl)
theorem dL_law_1723 : decode cL_law 1723 = .ok (.iadd, 1) := dk_96 (dk_at dksL_law_65 23 rfl rfl)
theorem dL_law_1724 : decode cL_law 1724 = .ok (.iaload, 1) := dk_46 (dk_at dksL_law_66 0 rfl rfl)
theorem dL_law_1725 : decode cL_law 1725 = .ok (.aload_n 0, 1) := dk_42 (dk_at dksL_law_66 1 rfl rfl)
theorem dL_law_1726 : decode cL_law 1726 = .ok (.iload 4, 2) := dk_21 4 (dk_at dksL_law_66 2 rfl rfl)
theorem dL_law_1728 : decode cL_law 1728 = .ok (.iconst 3, 1) := dk_6 (dk_at dksL_law_66 4 rfl rfl)
theorem dL_law_1729 : decode cL_law 1729 = .ok (.iadd, 1) := dk_96 (dk_at dksL_law_66 5 rfl rfl)
theorem dL_law_1730 : decode cL_law 1730 = .ok (.iaload, 1) := dk_46 (dk_at dksL_law_66 6 rfl rfl)
theorem dL_law_1731 : decode cL_law 1731 = .ok (.invokevirtual 179, 3) := dk_182 0 179 (dk_at dksL_law_66 7 rfl rfl)
theorem dL_law_1734 : decode cL_law 1734 = .ok (.aload_n 2, 1) := dk_44 (dk_at dksL_law_66 10 rfl rfl)
theorem dL_law_1735 : decode cL_law 1735 = .ok (.aload_n 0, 1) := dk_42 (dk_at dksL_law_66 11 rfl rfl)
theorem dL_law_1736 : decode cL_law 1736 = .ok (.iload 4, 2) := dk_21 4 (dk_at dksL_law_66 12 rfl rfl)
theorem dL_law_1738 : decode cL_law 1738 = .ok (.iconst 1, 1) := dk_4 (dk_at dksL_law_66 14 rfl rfl)
theorem dL_law_1739 : decode cL_law 1739 = .ok (.iadd, 1) := dk_96 (dk_at dksL_law_66 15 rfl rfl)
theorem dL_law_1740 : decode cL_law 1740 = .ok (.iaload, 1) := dk_46 (dk_at dksL_law_66 16 rfl rfl)
theorem dL_law_1741 : decode cL_law 1741 = .ok (.aload_n 0, 1) := dk_42 (dk_at dksL_law_66 17 rfl rfl)
theorem dL_law_1742 : decode cL_law 1742 = .ok (.iload 4, 2) := dk_21 4 (dk_at dksL_law_66 18 rfl rfl)
theorem dL_law_1744 : decode cL_law 1744 = .ok (.iconst 2, 1) := dk_5 (dk_at dksL_law_66 20 rfl rfl)
theorem dL_law_1745 : decode cL_law 1745 = .ok (.iadd, 1) := dk_96 (dk_at dksL_law_66 21 rfl rfl)
theorem dL_law_1746 : decode cL_law 1746 = .ok (.iaload, 1) := dk_46 (dk_at dksL_law_66 22 rfl rfl)
theorem dL_law_1747 : decode cL_law 1747 = .ok (.aload_n 0, 1) := dk_42 (dk_at dksL_law_66 23 rfl rfl)
theorem dL_law_1748 : decode cL_law 1748 = .ok (.iload 4, 2) := dk_21 4 (dk_at dksL_law_67 0 rfl rfl)
theorem dL_law_1750 : decode cL_law 1750 = .ok (.iconst 3, 1) := dk_6 (dk_at dksL_law_67 2 rfl rfl)
theorem dL_law_1751 : decode cL_law 1751 = .ok (.iadd, 1) := dk_96 (dk_at dksL_law_67 3 rfl rfl)
theorem dL_law_1752 : decode cL_law 1752 = .ok (.iaload, 1) := dk_46 (dk_at dksL_law_67 4 rfl rfl)
theorem dL_law_1753 : decode cL_law 1753 = .ok (.invokevirtual 182, 3) := dk_182 0 182 (dk_at dksL_law_67 5 rfl rfl)
theorem dL_law_1756 : decode cL_law 1756 = .ok (.if_icmp .eq 198, 3) := dk_159 0 198 (dk_at dksL_law_67 8 rfl rfl)
theorem dL_law_1759 : decode cL_law 1759 = .ok (.iconst 0, 1) := dk_3 (dk_at dksL_law_67 11 rfl rfl)
theorem dL_law_1760 : decode cL_law 1760 = .ok (.ireturn, 1) := dk_172 (dk_at dksL_law_67 12 rfl rfl)
theorem dL_law_1761 : decode cL_law 1761 = .ok (.aload_n 1, 1) := dk_43 (dk_at dksL_law_67 13 rfl rfl)
theorem dL_law_1762 : decode cL_law 1762 = .ok (.aload_n 0, 1) := dk_42 (dk_at dksL_law_67 14 rfl rfl)
theorem dL_law_1763 : decode cL_law 1763 = .ok (.iload 4, 2) := dk_21 4 (dk_at dksL_law_67 15 rfl rfl)
theorem dL_law_1765 : decode cL_law 1765 = .ok (.iconst 1, 1) := dk_4 (dk_at dksL_law_67 17 rfl rfl)
theorem dL_law_1766 : decode cL_law 1766 = .ok (.iadd, 1) := dk_96 (dk_at dksL_law_67 18 rfl rfl)
theorem dL_law_1767 : decode cL_law 1767 = .ok (.iaload, 1) := dk_46 (dk_at dksL_law_67 19 rfl rfl)
theorem dL_law_1768 : decode cL_law 1768 = .ok (.aload_n 0, 1) := dk_42 (dk_at dksL_law_67 20 rfl rfl)
theorem dL_law_1769 : decode cL_law 1769 = .ok (.iload 4, 2) := dk_21 4 (dk_at dksL_law_67 21 rfl rfl)
theorem dL_law_1771 : decode cL_law 1771 = .ok (.iconst 2, 1) := dk_5 (dk_at dksL_law_67 23 rfl rfl)
theorem dL_law_1772 : decode cL_law 1772 = .ok (.iadd, 1) := dk_96 (dk_at dksL_law_68 0 rfl rfl)
theorem dL_law_1773 : decode cL_law 1773 = .ok (.iaload, 1) := dk_46 (dk_at dksL_law_68 1 rfl rfl)
theorem dL_law_1774 : decode cL_law 1774 = .ok (.invokevirtual 183, 3) := dk_182 0 183 (dk_at dksL_law_68 2 rfl rfl)
theorem dL_law_1777 : decode cL_law 1777 = .ok (.aload_n 2, 1) := dk_44 (dk_at dksL_law_68 5 rfl rfl)
theorem dL_law_1778 : decode cL_law 1778 = .ok (.aload_n 0, 1) := dk_42 (dk_at dksL_law_68 6 rfl rfl)
theorem dL_law_1779 : decode cL_law 1779 = .ok (.iload 4, 2) := dk_21 4 (dk_at dksL_law_68 7 rfl rfl)
theorem dL_law_1781 : decode cL_law 1781 = .ok (.iconst 1, 1) := dk_4 (dk_at dksL_law_68 9 rfl rfl)
theorem dL_law_1782 : decode cL_law 1782 = .ok (.iadd, 1) := dk_96 (dk_at dksL_law_68 10 rfl rfl)
theorem dL_law_1783 : decode cL_law 1783 = .ok (.iaload, 1) := dk_46 (dk_at dksL_law_68 11 rfl rfl)
theorem dL_law_1784 : decode cL_law 1784 = .ok (.aload_n 0, 1) := dk_42 (dk_at dksL_law_68 12 rfl rfl)
theorem dL_law_1785 : decode cL_law 1785 = .ok (.iload 4, 2) := dk_21 4 (dk_at dksL_law_68 13 rfl rfl)
theorem dL_law_1787 : decode cL_law 1787 = .ok (.iconst 2, 1) := dk_5 (dk_at dksL_law_68 15 rfl rfl)
theorem dL_law_1788 : decode cL_law 1788 = .ok (.iadd, 1) := dk_96 (dk_at dksL_law_68 16 rfl rfl)
theorem dL_law_1789 : decode cL_law 1789 = .ok (.iaload, 1) := dk_46 (dk_at dksL_law_68 17 rfl rfl)
theorem dL_law_1790 : decode cL_law 1790 = .ok (.invokevirtual 186, 3) := dk_182 0 186 (dk_at dksL_law_68 18 rfl rfl)
theorem dL_law_1793 : decode cL_law 1793 = .ok (.if_icmp .eq 161, 3) := dk_159 0 161 (dk_at dksL_law_68 21 rfl rfl)
theorem dL_law_1796 : decode cL_law 1796 = .ok (.iconst 0, 1) := dk_3 (dk_at dksL_law_69 0 rfl rfl)
theorem dL_law_1797 : decode cL_law 1797 = .ok (.ireturn, 1) := dk_172 (dk_at dksL_law_69 1 rfl rfl)
theorem dL_law_1798 : decode cL_law 1798 = .ok (.aload_n 1, 1) := dk_43 (dk_at dksL_law_69 2 rfl rfl)
theorem dL_law_1799 : decode cL_law 1799 = .ok (.aload_n 0, 1) := dk_42 (dk_at dksL_law_69 3 rfl rfl)
theorem dL_law_1800 : decode cL_law 1800 = .ok (.iload 4, 2) := dk_21 4 (dk_at dksL_law_69 4 rfl rfl)
theorem dL_law_1802 : decode cL_law 1802 = .ok (.iconst 1, 1) := dk_4 (dk_at dksL_law_69 6 rfl rfl)
theorem dL_law_1803 : decode cL_law 1803 = .ok (.iadd, 1) := dk_96 (dk_at dksL_law_69 7 rfl rfl)
theorem dL_law_1804 : decode cL_law 1804 = .ok (.iaload, 1) := dk_46 (dk_at dksL_law_69 8 rfl rfl)
theorem dL_law_1805 : decode cL_law 1805 = .ok (.invokevirtual 187, 3) := dk_182 0 187 (dk_at dksL_law_69 9 rfl rfl)
theorem dL_law_1808 : decode cL_law 1808 = .ok (.aload_n 2, 1) := dk_44 (dk_at dksL_law_69 12 rfl rfl)
theorem dL_law_1809 : decode cL_law 1809 = .ok (.aload_n 0, 1) := dk_42 (dk_at dksL_law_69 13 rfl rfl)
theorem dL_law_1810 : decode cL_law 1810 = .ok (.iload 4, 2) := dk_21 4 (dk_at dksL_law_69 14 rfl rfl)
theorem dL_law_1812 : decode cL_law 1812 = .ok (.iconst 1, 1) := dk_4 (dk_at dksL_law_69 16 rfl rfl)
theorem dL_law_1813 : decode cL_law 1813 = .ok (.iadd, 1) := dk_96 (dk_at dksL_law_69 17 rfl rfl)
theorem dL_law_1814 : decode cL_law 1814 = .ok (.iaload, 1) := dk_46 (dk_at dksL_law_69 18 rfl rfl)
theorem dL_law_1815 : decode cL_law 1815 = .ok (.invokevirtual 190, 3) := dk_182 0 190 (dk_at dksL_law_69 19 rfl rfl)
theorem dL_law_1818 : decode cL_law 1818 = .ok (.if_icmp .eq 136, 3) := dk_159 0 136 (dk_at dksL_law_70 0 rfl rfl)
theorem dL_law_1821 : decode cL_law 1821 = .ok (.iconst 0, 1) := dk_3 (dk_at dksL_law_70 3 rfl rfl)
theorem dL_law_1822 : decode cL_law 1822 = .ok (.ireturn, 1) := dk_172 (dk_at dksL_law_70 4 rfl rfl)
theorem dL_law_1823 : decode cL_law 1823 = .ok (.aload_n 1, 1) := dk_43 (dk_at dksL_law_70 5 rfl rfl)
theorem dL_law_1824 : decode cL_law 1824 = .ok (.aload_n 0, 1) := dk_42 (dk_at dksL_law_70 6 rfl rfl)
theorem dL_law_1825 : decode cL_law 1825 = .ok (.iload 4, 2) := dk_21 4 (dk_at dksL_law_70 7 rfl rfl)
theorem dL_law_1827 : decode cL_law 1827 = .ok (.iconst 1, 1) := dk_4 (dk_at dksL_law_70 9 rfl rfl)
theorem dL_law_1828 : decode cL_law 1828 = .ok (.iadd, 1) := dk_96 (dk_at dksL_law_70 10 rfl rfl)
theorem dL_law_1829 : decode cL_law 1829 = .ok (.iaload, 1) := dk_46 (dk_at dksL_law_70 11 rfl rfl)
theorem dL_law_1830 : decode cL_law 1830 = .ok (.aload_n 0, 1) := dk_42 (dk_at dksL_law_70 12 rfl rfl)
theorem dL_law_1831 : decode cL_law 1831 = .ok (.iload 4, 2) := dk_21 4 (dk_at dksL_law_70 13 rfl rfl)
theorem dL_law_1833 : decode cL_law 1833 = .ok (.iconst 2, 1) := dk_5 (dk_at dksL_law_70 15 rfl rfl)
theorem dL_law_1834 : decode cL_law 1834 = .ok (.iadd, 1) := dk_96 (dk_at dksL_law_70 16 rfl rfl)
theorem dL_law_1835 : decode cL_law 1835 = .ok (.iaload, 1) := dk_46 (dk_at dksL_law_70 17 rfl rfl)
theorem dL_law_1836 : decode cL_law 1836 = .ok (.invokevirtual 191, 3) := dk_182 0 191 (dk_at dksL_law_70 18 rfl rfl)
theorem dL_law_1839 : decode cL_law 1839 = .ok (.aload_n 2, 1) := dk_44 (dk_at dksL_law_70 21 rfl rfl)
theorem dL_law_1840 : decode cL_law 1840 = .ok (.aload_n 0, 1) := dk_42 (dk_at dksL_law_70 22 rfl rfl)
theorem dL_law_1841 : decode cL_law 1841 = .ok (.iload 4, 2) := dk_21 4 (dk_at dksL_law_71 0 rfl rfl)
theorem dL_law_1843 : decode cL_law 1843 = .ok (.iconst 1, 1) := dk_4 (dk_at dksL_law_71 2 rfl rfl)
theorem dL_law_1844 : decode cL_law 1844 = .ok (.iadd, 1) := dk_96 (dk_at dksL_law_71 3 rfl rfl)
theorem dL_law_1845 : decode cL_law 1845 = .ok (.iaload, 1) := dk_46 (dk_at dksL_law_71 4 rfl rfl)
theorem dL_law_1846 : decode cL_law 1846 = .ok (.aload_n 0, 1) := dk_42 (dk_at dksL_law_71 5 rfl rfl)
theorem dL_law_1847 : decode cL_law 1847 = .ok (.iload 4, 2) := dk_21 4 (dk_at dksL_law_71 6 rfl rfl)
theorem dL_law_1849 : decode cL_law 1849 = .ok (.iconst 2, 1) := dk_5 (dk_at dksL_law_71 8 rfl rfl)
theorem dL_law_1850 : decode cL_law 1850 = .ok (.iadd, 1) := dk_96 (dk_at dksL_law_71 9 rfl rfl)
theorem dL_law_1851 : decode cL_law 1851 = .ok (.iaload, 1) := dk_46 (dk_at dksL_law_71 10 rfl rfl)
theorem dL_law_1852 : decode cL_law 1852 = .ok (.invokevirtual 194, 3) := dk_182 0 194 (dk_at dksL_law_71 11 rfl rfl)
theorem dL_law_1855 : decode cL_law 1855 = .ok (.if_icmp .eq 99, 3) := dk_159 0 99 (dk_at dksL_law_71 14 rfl rfl)
theorem dL_law_1858 : decode cL_law 1858 = .ok (.iconst 0, 1) := dk_3 (dk_at dksL_law_71 17 rfl rfl)
theorem dL_law_1859 : decode cL_law 1859 = .ok (.ireturn, 1) := dk_172 (dk_at dksL_law_71 18 rfl rfl)
theorem dL_law_1860 : decode cL_law 1860 = .ok (.aload_n 1, 1) := dk_43 (dk_at dksL_law_71 19 rfl rfl)
theorem dL_law_1861 : decode cL_law 1861 = .ok (.aload_n 0, 1) := dk_42 (dk_at dksL_law_71 20 rfl rfl)
theorem dL_law_1862 : decode cL_law 1862 = .ok (.iload 4, 2) := dk_21 4 (dk_at dksL_law_71 21 rfl rfl)
theorem dL_law_1864 : decode cL_law 1864 = .ok (.iconst 1, 1) := dk_4 (dk_at dksL_law_71 23 rfl rfl)
theorem dL_law_1865 : decode cL_law 1865 = .ok (.iadd, 1) := dk_96 (dk_at dksL_law_72 0 rfl rfl)
theorem dL_law_1866 : decode cL_law 1866 = .ok (.iaload, 1) := dk_46 (dk_at dksL_law_72 1 rfl rfl)
theorem dL_law_1867 : decode cL_law 1867 = .ok (.aload_n 3, 1) := dk_45 (dk_at dksL_law_72 2 rfl rfl)
theorem dL_law_1868 : decode cL_law 1868 = .ok (.invokestatic 195, 3) := dk_184 0 195 (dk_at dksL_law_72 3 rfl rfl)
theorem dL_law_1871 : decode cL_law 1871 = .ok (.istore 5, 2) := dk_54 5 (dk_at dksL_law_72 6 rfl rfl)
theorem dL_law_1873 : decode cL_law 1873 = .ok (.aload_n 2, 1) := dk_44 (dk_at dksL_law_72 8 rfl rfl)
theorem dL_law_1874 : decode cL_law 1874 = .ok (.aload_n 0, 1) := dk_42 (dk_at dksL_law_72 9 rfl rfl)
theorem dL_law_1875 : decode cL_law 1875 = .ok (.iload 4, 2) := dk_21 4 (dk_at dksL_law_72 10 rfl rfl)
theorem dL_law_1877 : decode cL_law 1877 = .ok (.iconst 1, 1) := dk_4 (dk_at dksL_law_72 12 rfl rfl)
theorem dL_law_1878 : decode cL_law 1878 = .ok (.iadd, 1) := dk_96 (dk_at dksL_law_72 13 rfl rfl)
theorem dL_law_1879 : decode cL_law 1879 = .ok (.iaload, 1) := dk_46 (dk_at dksL_law_72 14 rfl rfl)
theorem dL_law_1880 : decode cL_law 1880 = .ok (.invokevirtual 200, 3) := dk_182 0 200 (dk_at dksL_law_72 15 rfl rfl)
theorem dL_law_1883 : decode cL_law 1883 = .ok (.istore 6, 2) := dk_54 6 (dk_at dksL_law_72 18 rfl rfl)
theorem dL_law_1885 : decode cL_law 1885 = .ok (.aload_n 2, 1) := dk_44 (dk_at dksL_law_72 20 rfl rfl)
theorem dL_law_1886 : decode cL_law 1886 = .ok (.invokevirtual 201, 3) := dk_182 0 201 (dk_at dksL_law_72 21 rfl rfl)
theorem dL_law_1889 : decode cL_law 1889 = .ok (.iload 5, 2) := dk_21 5 (dk_at dksL_law_73 0 rfl rfl)
theorem dL_law_1891 : decode cL_law 1891 = .ok (.if_icmp .eq 5, 3) := dk_159 0 5 (dk_at dksL_law_73 2 rfl rfl)
theorem dL_law_1894 : decode cL_law 1894 = .ok (.iconst 0, 1) := dk_3 (dk_at dksL_law_73 5 rfl rfl)
theorem dL_law_1895 : decode cL_law 1895 = .ok (.ireturn, 1) := dk_172 (dk_at dksL_law_73 6 rfl rfl)
theorem dL_law_1896 : decode cL_law 1896 = .ok (.iload 5, 2) := dk_21 5 (dk_at dksL_law_73 7 rfl rfl)
theorem dL_law_1898 : decode cL_law 1898 = .ok (.ifCond .ne 15, 3) := dk_154 0 15 (dk_at dksL_law_73 9 rfl rfl)
theorem dL_law_1901 : decode cL_law 1901 = .ok (.aload_n 3, 1) := dk_45 (dk_at dksL_law_73 12 rfl rfl)
theorem dL_law_1902 : decode cL_law 1902 = .ok (.iconst 0, 1) := dk_3 (dk_at dksL_law_73 13 rfl rfl)
theorem dL_law_1903 : decode cL_law 1903 = .ok (.laload, 1) := dk_47 (dk_at dksL_law_73 14 rfl rfl)
theorem dL_law_1904 : decode cL_law 1904 = .ok (.iload 6, 2) := dk_21 6 (dk_at dksL_law_73 15 rfl rfl)
theorem dL_law_1906 : decode cL_law 1906 = .ok (.i2l, 1) := dk_133 (dk_at dksL_law_73 17 rfl rfl)
theorem dL_law_1907 : decode cL_law 1907 = .ok (.lcmp, 1) := dk_148 (dk_at dksL_law_73 18 rfl rfl)
theorem dL_law_1908 : decode cL_law 1908 = .ok (.ifCond .eq 5, 3) := dk_153 0 5 (dk_at dksL_law_73 19 rfl rfl)
theorem dL_law_1911 : decode cL_law 1911 = .ok (.iconst 0, 1) := dk_3 (dk_at dksL_law_73 22 rfl rfl)
theorem dL_law_1912 : decode cL_law 1912 = .ok (.ireturn, 1) := dk_172 (dk_at dksL_law_73 23 rfl rfl)
theorem dL_law_1913 : decode cL_law 1913 = .ok (.goto 41, 3) := dk_167 0 41 (dk_at dksL_law_74 0 rfl rfl)
theorem dL_law_1916 : decode cL_law 1916 = .ok (.aload_n 1, 1) := dk_43 (dk_at dksL_law_74 3 rfl rfl)
theorem dL_law_1917 : decode cL_law 1917 = .ok (.aload_n 0, 1) := dk_42 (dk_at dksL_law_74 4 rfl rfl)
theorem dL_law_1918 : decode cL_law 1918 = .ok (.iload 4, 2) := dk_21 4 (dk_at dksL_law_74 5 rfl rfl)
theorem dL_law_1920 : decode cL_law 1920 = .ok (.iconst 1, 1) := dk_4 (dk_at dksL_law_74 7 rfl rfl)
theorem dL_law_1921 : decode cL_law 1921 = .ok (.iadd, 1) := dk_96 (dk_at dksL_law_74 8 rfl rfl)
theorem dL_law_1922 : decode cL_law 1922 = .ok (.iaload, 1) := dk_46 (dk_at dksL_law_74 9 rfl rfl)
theorem dL_law_1923 : decode cL_law 1923 = .ok (.invokevirtual 204, 3) := dk_182 0 204 (dk_at dksL_law_74 10 rfl rfl)
theorem dL_law_1926 : decode cL_law 1926 = .ok (.aload_n 2, 1) := dk_44 (dk_at dksL_law_74 13 rfl rfl)
theorem dL_law_1927 : decode cL_law 1927 = .ok (.aload_n 0, 1) := dk_42 (dk_at dksL_law_74 14 rfl rfl)
theorem dL_law_1928 : decode cL_law 1928 = .ok (.iload 4, 2) := dk_21 4 (dk_at dksL_law_74 15 rfl rfl)
theorem dL_law_1930 : decode cL_law 1930 = .ok (.iconst 1, 1) := dk_4 (dk_at dksL_law_74 17 rfl rfl)
theorem dL_law_1931 : decode cL_law 1931 = .ok (.iadd, 1) := dk_96 (dk_at dksL_law_74 18 rfl rfl)
theorem dL_law_1932 : decode cL_law 1932 = .ok (.iaload, 1) := dk_46 (dk_at dksL_law_74 19 rfl rfl)
theorem dL_law_1933 : decode cL_law 1933 = .ok (.invokevirtual 207, 3) := dk_182 0 207 (dk_at dksL_law_74 20 rfl rfl)
theorem dL_law_1936 : decode cL_law 1936 = .ok (.if_icmp .eq 18, 3) := dk_159 0 18 (dk_at dksL_law_75 0 rfl rfl)
theorem dL_law_1939 : decode cL_law 1939 = .ok (.iconst 0, 1) := dk_3 (dk_at dksL_law_75 3 rfl rfl)
theorem dL_law_1940 : decode cL_law 1940 = .ok (.ireturn, 1) := dk_172 (dk_at dksL_law_75 4 rfl rfl)
theorem dL_law_1941 : decode cL_law 1941 = .ok (.aload_n 1, 1) := dk_43 (dk_at dksL_law_75 5 rfl rfl)
theorem dL_law_1942 : decode cL_law 1942 = .ok (.invokevirtual 208, 3) := dk_182 0 208 (dk_at dksL_law_75 6 rfl rfl)
theorem dL_law_1945 : decode cL_law 1945 = .ok (.aload_n 2, 1) := dk_44 (dk_at dksL_law_75 9 rfl rfl)
theorem dL_law_1946 : decode cL_law 1946 = .ok (.invokevirtual 211, 3) := dk_182 0 211 (dk_at dksL_law_75 10 rfl rfl)
theorem dL_law_1949 : decode cL_law 1949 = .ok (.if_icmp .eq 5, 3) := dk_159 0 5 (dk_at dksL_law_75 13 rfl rfl)
theorem dL_law_1952 : decode cL_law 1952 = .ok (.iconst 0, 1) := dk_3 (dk_at dksL_law_75 16 rfl rfl)
theorem dL_law_1953 : decode cL_law 1953 = .ok (.ireturn, 1) := dk_172 (dk_at dksL_law_75 17 rfl rfl)
theorem dL_law_1954 : decode cL_law 1954 = .ok (.iinc 4 7, 3) := dk_132 4 7 (dk_at dksL_law_75 18 rfl rfl)
theorem dL_law_1957 : decode cL_law 1957 = .ok (.goto (-1934), 3) := dk_167 248 114 (dk_at dksL_law_75 21 rfl rfl)
theorem dL_law_1960 : decode cL_law 1960 = .ok (.iconst 1, 1) := dk_4 (dk_at dksL_law_76 0 rfl rfl)
theorem dL_law_1961 : decode cL_law 1961 = .ok (.ireturn, 1) := dk_172 (dk_at dksL_law_76 1 rfl rfl)
