/-! OpenLinesLaw -/
set_option maxRecDepth 100000
def RX0 : String := "OpenLinesLaw"
abbrev cX0_never : ByteArray := method_3_code
def yX0_never : MethodName := ⟨RX0, "never", "(LOpenLines;I[J)I"⟩
def dkwX0_never_0 : List UInt8 := [44, 3, 42, 27, 182, 0, 7, 133, 80, 167, 0, 6, 78, 4, 172, 3, 172]
abbrev dktX0_never_0 : List UInt8 := dkwX0_never_0 ++ []
theorem dksX0_never_0 : cX0_never.data.toList.drop 0 = dktX0_never_0 := by decide +kernel
theorem dX0_never_0 : decode cX0_never 0 = .ok (.aload_n 2, 1) := dk_44 (dk_at dksX0_never_0 0 rfl rfl)
theorem dX0_never_1 : decode cX0_never 1 = .ok (.iconst 0, 1) := dk_3 (dk_at dksX0_never_0 1 rfl rfl)
theorem dX0_never_2 : decode cX0_never 2 = .ok (.aload_n 0, 1) := dk_42 (dk_at dksX0_never_0 2 rfl rfl)
theorem dX0_never_3 : decode cX0_never 3 = .ok (.iload_n 1, 1) := dk_27 (dk_at dksX0_never_0 3 rfl rfl)
theorem dX0_never_4 : decode cX0_never 4 = .ok (.invokevirtual 7, 3) := dk_182 0 7 (dk_at dksX0_never_0 4 rfl rfl)
theorem dX0_never_7 : decode cX0_never 7 = .ok (.i2l, 1) := dk_133 (dk_at dksX0_never_0 7 rfl rfl)
theorem dX0_never_8 : decode cX0_never 8 = .ok (.lastore, 1) := dk_80 (dk_at dksX0_never_0 8 rfl rfl)
theorem dX0_never_9 : decode cX0_never 9 = .ok (.goto 6, 3) := dk_167 0 6 (dk_at dksX0_never_0 9 rfl rfl)
theorem dX0_never_12 : decode cX0_never 12 = .ok (.astore_n 3, 1) := dk_78 (dk_at dksX0_never_0 12 rfl rfl)
theorem dX0_never_13 : decode cX0_never 13 = .ok (.iconst 1, 1) := dk_4 (dk_at dksX0_never_0 13 rfl rfl)
theorem dX0_never_14 : decode cX0_never 14 = .ok (.ireturn, 1) := dk_172 (dk_at dksX0_never_0 14 rfl rfl)
theorem dX0_never_15 : decode cX0_never 15 = .ok (.iconst 0, 1) := dk_3 (dk_at dksX0_never_0 15 rfl rfl)
theorem dX0_never_16 : decode cX0_never 16 = .ok (.ireturn, 1) := dk_172 (dk_at dksX0_never_0 16 rfl rfl)
theorem q101 : (Jvm.Cond.initialized "OpenLinesLaw") ∈ lw_all := lw_g (lw_at lw_m1 0 rfl) rfl
theorem q148 : (Jvm.Cond.classLink "OpenLinesLaw" (8 : Nat) "OpenLines") ∈ lw_all := lw_g (lw_at lw_m1 47 rfl) rfl
theorem q150 : (Jvm.Cond.methodLink "OpenLinesLaw" (15 : Nat) ({ cls := "OpenLines", name := "<init>", desc := "()V" } : Jvm.MethodName)) ∈ lw_all := lw_g (lw_at lw_m1 49 rfl) rfl
theorem q383 : (Jvm.Cond.methodLink "OpenLinesLaw" (19 : Nat) ({ cls := "OpenLines", name := "feed", desc := "(IIIII)I" } : Jvm.MethodName)) ∈ lw_all := lw_g (lw_at lw_m2 42 rfl) rfl
theorem q391 : (Jvm.Cond.methodLink "OpenLinesLaw" (24 : Nat) ({ cls := "OpenLines", name := "bus", desc := "(I)I" } : Jvm.MethodName)) ∈ lw_all := lw_g (lw_at lw_m2 50 rfl) rfl
theorem q1440 : (Jvm.Cond.methodLink "OpenLinesLaw" (28 : Nat) ({ cls := "OpenLines", name := "fault", desc := "()I" } : Jvm.MethodName)) ∈ lw_all := lw_g (lw_at lw_m6 139 rfl) rfl
theorem q1444 : (Jvm.Cond.methodLink "OpenLinesLaw" (33 : Nat) ({ cls := "OpenLines", name := "where", desc := "()I" } : Jvm.MethodName)) ∈ lw_all := lw_g (lw_at lw_m6 143 rfl) rfl
theorem q1448 : (Jvm.Cond.methodLink "OpenLinesLaw" (37 : Nat) ({ cls := "OpenLines", name := "about", desc := "(I)I" } : Jvm.MethodName)) ∈ lw_all := lw_g (lw_at lw_m6 147 rfl) rfl
theorem q1453 : (Jvm.Cond.methodLink "OpenLinesLaw" (41 : Nat) ({ cls := "OpenLines", name := "board", desc := "(II)I" } : Jvm.MethodName)) ∈ lw_all := lw_g (lw_at lw_m6 152 rfl) rfl
theorem q1492 : (Jvm.Cond.methodLink "OpenLinesLaw" (46 : Nat) ({ cls := "OpenLines", name := "named", desc := "(I)I" } : Jvm.MethodName)) ∈ lw_all := lw_g (lw_at lw_m6 191 rfl) rfl
theorem q1508 : (Jvm.Cond.methodLink "OpenLinesLaw" (50 : Nat) ({ cls := "OpenLines", name := "word", desc := "(II)I" } : Jvm.MethodName)) ∈ lw_all := lw_g (lw_at lw_m6 207 rfl) rfl
theorem q1570 : (Jvm.Cond.methodLink "OpenLinesLaw" (54 : Nat) ({ cls := "OpenLines", name := "drives", desc := "(IIII)I" } : Jvm.MethodName)) ∈ lw_all := lw_g (lw_at lw_m7 29 rfl) rfl
theorem q1630 : (Jvm.Cond.methodLink "OpenLinesLaw" (59 : Nat) ({ cls := "OpenLines", name := "seen", desc := "(IIII)I" } : Jvm.MethodName)) ∈ lw_all := lw_g (lw_at lw_m7 89 rfl) rfl
theorem q1634 : (Jvm.Cond.methodLink "OpenLinesLaw" (63 : Nat) ({ cls := "OpenLines", name := "taken", desc := "(IIII)I" } : Jvm.MethodName)) ∈ lw_all := lw_g (lw_at lw_m7 93 rfl) rfl
theorem q1638 : (Jvm.Cond.methodLink "OpenLinesLaw" (67 : Nat) ({ cls := "OpenLines", name := "withdrawn", desc := "(IIII)I" } : Jvm.MethodName)) ∈ lw_all := lw_g (lw_at lw_m7 97 rfl) rfl
theorem q1642 : (Jvm.Cond.methodLink "OpenLinesLaw" (71 : Nat) ({ cls := "OpenLines", name := "winners", desc := "(III)I" } : Jvm.MethodName)) ∈ lw_all := lw_g (lw_at lw_m7 101 rfl) rfl
theorem q1650 : (Jvm.Cond.methodLink "OpenLinesLaw" (76 : Nat) ({ cls := "OpenLines", name := "settles", desc := "(II)I" } : Jvm.MethodName)) ∈ lw_all := lw_g (lw_at lw_m7 109 rfl) rfl
theorem q1658 : (Jvm.Cond.methodLink "OpenLinesLaw" (80 : Nat) ({ cls := "OpenLines", name := "sure", desc := "(II)I" } : Jvm.MethodName)) ∈ lw_all := lw_g (lw_at lw_m7 117 rfl) rfl
theorem q1671 : (Jvm.Cond.methodLink "OpenLinesLaw" (84 : Nat) ({ cls := "OpenLines", name := "right", desc := "(II)I" } : Jvm.MethodName)) ∈ lw_all := lw_g (lw_at lw_m7 130 rfl) rfl
theorem q1676 : (Jvm.Cond.methodLink "OpenLinesLaw" (88 : Nat) ({ cls := "OpenLines", name := "dips", desc := "(II)I" } : Jvm.MethodName)) ∈ lw_all := lw_g (lw_at lw_m7 135 rfl) rfl
theorem q1680 : (Jvm.Cond.methodLink "OpenLinesLaw" (92 : Nat) ({ cls := "OpenLines", name := "faulty", desc := "(III)I" } : Jvm.MethodName)) ∈ lw_all := lw_g (lw_at lw_m7 139 rfl) rfl
theorem q1689 : (Jvm.Cond.methodLink "OpenLinesLaw" (96 : Nat) ({ cls := "OpenLines", name := "edges", desc := "(IIII)I" } : Jvm.MethodName)) ∈ lw_all := lw_g (lw_at lw_m7 148 rfl) rfl
theorem q1697 : (Jvm.Cond.methodLink "OpenLinesLaw" (100 : Nat) ({ cls := "OpenLines", name := "filters", desc := "(II)I" } : Jvm.MethodName)) ∈ lw_all := lw_g (lw_at lw_m7 156 rfl) rfl
theorem q1702 : (Jvm.Cond.methodLink "OpenLinesLaw" (104 : Nat) ({ cls := "OpenLines", name := "slowest", desc := "(I)I" } : Jvm.MethodName)) ∈ lw_all := lw_g (lw_at lw_m7 161 rfl) rfl
theorem q1706 : (Jvm.Cond.methodLink "OpenLinesLaw" (108 : Nat) ({ cls := "OpenLines", name := "settled", desc := "(II)I" } : Jvm.MethodName)) ∈ lw_all := lw_g (lw_at lw_m7 165 rfl) rfl
theorem q1710 : (Jvm.Cond.methodLink "OpenLinesLaw" (112 : Nat) ({ cls := "OpenLines", name := "enough", desc := "(I)I" } : Jvm.MethodName)) ∈ lw_all := lw_g (lw_at lw_m7 169 rfl) rfl
theorem q1715 : (Jvm.Cond.methodLink "OpenLinesLaw" (116 : Nat) ({ cls := "OpenLines", name := "would", desc := "(I)I" } : Jvm.MethodName)) ∈ lw_all := lw_g (lw_at lw_m7 174 rfl) rfl
theorem q1739 : (Jvm.Cond.methodLink "OpenLinesLaw" (120 : Nat) ({ cls := "OpenLines", name := "now", desc := "(I)I" } : Jvm.MethodName)) ∈ lw_all := lw_g (lw_at lw_m7 198 rfl) rfl
theorem q1755 : (Jvm.Cond.methodLink "OpenLinesLaw" (124 : Nat) ({ cls := "OpenLines", name := "ledger", desc := "(II)I" } : Jvm.MethodName)) ∈ lw_all := lw_g (lw_at lw_m7 214 rfl) rfl
theorem q1759 : (Jvm.Cond.methodLink "OpenLinesLaw" (128 : Nat) ({ cls := "OpenLines", name := "log", desc := "(II)I" } : Jvm.MethodName)) ∈ lw_all := lw_g (lw_at lw_m7 218 rfl) rfl
theorem q1789 : (Jvm.Cond.methodLink "OpenLinesLaw" (132 : Nat) ({ cls := "OpenLines", name := "past", desc := "(I)I" } : Jvm.MethodName)) ∈ lw_all := lw_g (lw_at lw_m8 8 rfl) rfl
theorem q1797 : (Jvm.Cond.methodLink "OpenLinesLaw" (136 : Nat) ({ cls := "OpenLines", name := "idle", desc := "()I" } : Jvm.MethodName)) ∈ lw_all := lw_g (lw_at lw_m8 16 rfl) rfl
theorem q1807 : (Jvm.Cond.methodLink "OpenLinesLaw" (140 : Nat) ({ cls := "OpenLines", name := "waiting", desc := "(I)I" } : Jvm.MethodName)) ∈ lw_all := lw_g (lw_at lw_m8 26 rfl) rfl
theorem q1816 : (Jvm.Cond.methodLink "OpenLinesLaw" (144 : Nat) ({ cls := "OpenLines", name := "longest", desc := "()I" } : Jvm.MethodName)) ∈ lw_all := lw_g (lw_at lw_m8 35 rfl) rfl
theorem q1825 : (Jvm.Cond.methodLink "OpenLinesLaw" (148 : Nat) ({ cls := "OpenLines", name := "will", desc := "(II)I" } : Jvm.MethodName)) ∈ lw_all := lw_g (lw_at lw_m8 44 rfl) rfl
theorem q2064 : (Jvm.Cond.methodLink "OpenLinesLaw" (152 : Nat) ({ cls := "OpenLines", name := "till", desc := "(I)I" } : Jvm.MethodName)) ∈ lw_all := lw_g (lw_at lw_m9 43 rfl) rfl
theorem q2068 : (Jvm.Cond.methodLink "OpenLinesLaw" (156 : Nat) ({ cls := "OpenLines", name := "ask", desc := "(II)I" } : Jvm.MethodName)) ∈ lw_all := lw_g (lw_at lw_m9 47 rfl) rfl
theorem q2074 : (Jvm.Cond.methodLink "OpenLinesLaw" (160 : Nat) ({ cls := "OpenLines", name := "waits", desc := "(II)I" } : Jvm.MethodName)) ∈ lw_all := lw_g (lw_at lw_m9 53 rfl) rfl
theorem q2079 : (Jvm.Cond.methodLink "OpenLinesLaw" (164 : Nat) ({ cls := "OpenLines", name := "stick", desc := "(II)I" } : Jvm.MethodName)) ∈ lw_all := lw_g (lw_at lw_m9 58 rfl) rfl
theorem q2083 : (Jvm.Cond.methodLink "OpenLinesLaw" (168 : Nat) ({ cls := "OpenLines", name := "ticks", desc := "(I)I" } : Jvm.MethodName)) ∈ lw_all := lw_g (lw_at lw_m9 62 rfl) rfl
theorem q2087 : (Jvm.Cond.methodLink "OpenLinesLaw" (172 : Nat) ({ cls := "OpenLines", name := "keep", desc := "()Z" } : Jvm.MethodName)) ∈ lw_all := lw_g (lw_at lw_m9 66 rfl) rfl
theorem q2095 : (Jvm.Cond.methodLink "OpenLinesLaw" (177 : Nat) ({ cls := "OpenLines", name := "back", desc := "()Z" } : Jvm.MethodName)) ∈ lw_all := lw_g (lw_at lw_m9 74 rfl) rfl
theorem q2099 : (Jvm.Cond.methodLink "OpenLinesLaw" (190 : Nat) ({ cls := "OpenLines", name := "size", desc := "(I)I" } : Jvm.MethodName)) ∈ lw_all := lw_g (lw_at lw_m9 78 rfl) rfl
theorem q2111 : (Jvm.Cond.methodLink "OpenLinesLaw" (194 : Nat) ({ cls := "OpenLines", name := "trouble", desc := "()I" } : Jvm.MethodName)) ∈ lw_all := lw_g (lw_at lw_m9 90 rfl) rfl
theorem q2115 : (Jvm.Cond.methodLink "OpenLinesLaw" (181 : Nat) ({ cls := "OpenLinesLaw", name := "never", desc := "(LOpenLines;I[J)I" } : Jvm.MethodName)) ∈ lw_all := lw_g (lw_at lw_m9 94 rfl) rfl
theorem q2116 : (Jvm.Cond.static ({ cls := "OpenLinesLaw", name := "never", desc := "(LOpenLines;I[J)I" } : Jvm.MethodName)) ∈ lw_all := lw_g (lw_at lw_m9 95 rfl) rfl
theorem q2117 : (Jvm.Cond.codeWith ({ cls := "OpenLinesLaw", name := "never", desc := "(LOpenLines;I[J)I" } : Jvm.MethodName) method_3_code (4 : Nat) (Option.some Jvm.ClassFile.FieldType.int) [((0 : Nat), (9 : Nat), (12 : Nat), (13 : Nat))]) ∈ lw_all := lw_g (lw_at lw_m9 96 rfl) rfl
theorem q2118 : (Jvm.Cond.classLink "OpenLinesLaw" (13 : Nat) "java/util/NoSuchElementException") ∈ lw_all := lw_g (lw_at lw_m9 97 rfl) rfl
theorem q2119 : (Jvm.Cond.methodLink "OpenLinesLaw" (7 : Nat) ({ cls := "OpenLines", name := "never", desc := "(I)I" } : Jvm.MethodName)) ∈ lw_all := lw_g (lw_at lw_m9 98 rfl) rfl
theorem q2125 : (Jvm.Cond.classLink "OpenLinesLaw" (16 : Nat) "OpenLinesModel") ∈ lw_all := lw_g (lw_at lw_m9 104 rfl) rfl
theorem q2127 : (Jvm.Cond.methodLink "OpenLinesLaw" (18 : Nat) ({ cls := "OpenLinesModel", name := "<init>", desc := "()V" } : Jvm.MethodName)) ∈ lw_all := lw_g (lw_at lw_m9 106 rfl) rfl
theorem q2232 : (Jvm.Cond.methodLink "OpenLinesLaw" (187 : Nat) ({ cls := "OpenLinesModel", name := "thrown", desc := "()I" } : Jvm.MethodName)) ∈ lw_all := lw_g (lw_at lw_m9 211 rfl) rfl
theorem q2236 : (Jvm.Cond.methodLink "OpenLinesLaw" (23 : Nat) ({ cls := "OpenLinesModel", name := "feed", desc := "(IIIII)I" } : Jvm.MethodName)) ∈ lw_all := lw_g (lw_at lw_m9 215 rfl) rfl
theorem q2244 : (Jvm.Cond.methodLink "OpenLinesLaw" (27 : Nat) ({ cls := "OpenLinesModel", name := "bus", desc := "(I)I" } : Jvm.MethodName)) ∈ lw_all := lw_g (lw_at lw_m9 223 rfl) rfl
theorem q2343 : (Jvm.Cond.methodLink "OpenLinesLaw" (32 : Nat) ({ cls := "OpenLinesModel", name := "fault", desc := "()I" } : Jvm.MethodName)) ∈ lw_all := lw_g (lw_at lw_m10 82 rfl) rfl
theorem q2347 : (Jvm.Cond.methodLink "OpenLinesLaw" (36 : Nat) ({ cls := "OpenLinesModel", name := "where", desc := "()I" } : Jvm.MethodName)) ∈ lw_all := lw_g (lw_at lw_m10 86 rfl) rfl
theorem q2351 : (Jvm.Cond.methodLink "OpenLinesLaw" (58 : Nat) ({ cls := "OpenLinesModel", name := "drives", desc := "(IIII)I" } : Jvm.MethodName)) ∈ lw_all := lw_g (lw_at lw_m10 90 rfl) rfl
theorem q2423 : (Jvm.Cond.methodLink "OpenLinesLaw" (62 : Nat) ({ cls := "OpenLinesModel", name := "seen", desc := "(IIII)I" } : Jvm.MethodName)) ∈ lw_all := lw_g (lw_at lw_m10 162 rfl) rfl
theorem q2427 : (Jvm.Cond.methodLink "OpenLinesLaw" (66 : Nat) ({ cls := "OpenLinesModel", name := "taken", desc := "(IIII)I" } : Jvm.MethodName)) ∈ lw_all := lw_g (lw_at lw_m10 166 rfl) rfl
theorem q2431 : (Jvm.Cond.methodLink "OpenLinesLaw" (70 : Nat) ({ cls := "OpenLinesModel", name := "withdrawn", desc := "(IIII)I" } : Jvm.MethodName)) ∈ lw_all := lw_g (lw_at lw_m10 170 rfl) rfl
theorem q2435 : (Jvm.Cond.methodLink "OpenLinesLaw" (75 : Nat) ({ cls := "OpenLinesModel", name := "winners", desc := "(III)I" } : Jvm.MethodName)) ∈ lw_all := lw_g (lw_at lw_m10 174 rfl) rfl
theorem q2443 : (Jvm.Cond.methodLink "OpenLinesLaw" (79 : Nat) ({ cls := "OpenLinesModel", name := "settles", desc := "(II)I" } : Jvm.MethodName)) ∈ lw_all := lw_g (lw_at lw_m10 182 rfl) rfl
theorem q2455 : (Jvm.Cond.methodLink "OpenLinesLaw" (83 : Nat) ({ cls := "OpenLinesModel", name := "sure", desc := "(II)I" } : Jvm.MethodName)) ∈ lw_all := lw_g (lw_at lw_m10 194 rfl) rfl
theorem q2467 : (Jvm.Cond.methodLink "OpenLinesLaw" (87 : Nat) ({ cls := "OpenLinesModel", name := "right", desc := "(II)I" } : Jvm.MethodName)) ∈ lw_all := lw_g (lw_at lw_m10 206 rfl) rfl
theorem q2471 : (Jvm.Cond.methodLink "OpenLinesLaw" (91 : Nat) ({ cls := "OpenLinesModel", name := "dips", desc := "(II)I" } : Jvm.MethodName)) ∈ lw_all := lw_g (lw_at lw_m10 210 rfl) rfl
theorem q2475 : (Jvm.Cond.methodLink "OpenLinesLaw" (95 : Nat) ({ cls := "OpenLinesModel", name := "faulty", desc := "(III)I" } : Jvm.MethodName)) ∈ lw_all := lw_g (lw_at lw_m10 214 rfl) rfl
theorem q2483 : (Jvm.Cond.methodLink "OpenLinesLaw" (99 : Nat) ({ cls := "OpenLinesModel", name := "edges", desc := "(IIII)I" } : Jvm.MethodName)) ∈ lw_all := lw_g (lw_at lw_m10 222 rfl) rfl
theorem q2487 : (Jvm.Cond.methodLink "OpenLinesLaw" (103 : Nat) ({ cls := "OpenLinesModel", name := "filters", desc := "(II)I" } : Jvm.MethodName)) ∈ lw_all := lw_g (lw_at lw_m10 226 rfl) rfl
theorem q2491 : (Jvm.Cond.methodLink "OpenLinesLaw" (111 : Nat) ({ cls := "OpenLinesModel", name := "settled", desc := "(II)I" } : Jvm.MethodName)) ∈ lw_all := lw_g (lw_at lw_m10 230 rfl) rfl
theorem q2495 : (Jvm.Cond.methodLink "OpenLinesLaw" (107 : Nat) ({ cls := "OpenLinesModel", name := "slowest", desc := "(I)I" } : Jvm.MethodName)) ∈ lw_all := lw_g (lw_at lw_m10 234 rfl) rfl
theorem q2499 : (Jvm.Cond.methodLink "OpenLinesLaw" (115 : Nat) ({ cls := "OpenLinesModel", name := "enough", desc := "(I)I" } : Jvm.MethodName)) ∈ lw_all := lw_g (lw_at lw_m10 238 rfl) rfl
theorem q2503 : (Jvm.Cond.methodLink "OpenLinesLaw" (119 : Nat) ({ cls := "OpenLinesModel", name := "would", desc := "(I)I" } : Jvm.MethodName)) ∈ lw_all := lw_g (lw_at lw_m11 2 rfl) rfl
theorem q2511 : (Jvm.Cond.methodLink "OpenLinesLaw" (123 : Nat) ({ cls := "OpenLinesModel", name := "now", desc := "(I)I" } : Jvm.MethodName)) ∈ lw_all := lw_g (lw_at lw_m11 10 rfl) rfl
theorem q2526 : (Jvm.Cond.methodLink "OpenLinesLaw" (127 : Nat) ({ cls := "OpenLinesModel", name := "ledger", desc := "(II)I" } : Jvm.MethodName)) ∈ lw_all := lw_g (lw_at lw_m11 25 rfl) rfl
theorem q2530 : (Jvm.Cond.methodLink "OpenLinesLaw" (135 : Nat) ({ cls := "OpenLinesModel", name := "past", desc := "(I)I" } : Jvm.MethodName)) ∈ lw_all := lw_g (lw_at lw_m11 29 rfl) rfl
theorem q2534 : (Jvm.Cond.methodLink "OpenLinesLaw" (139 : Nat) ({ cls := "OpenLinesModel", name := "idle", desc := "()I" } : Jvm.MethodName)) ∈ lw_all := lw_g (lw_at lw_m11 33 rfl) rfl
theorem q2538 : (Jvm.Cond.methodLink "OpenLinesLaw" (131 : Nat) ({ cls := "OpenLinesModel", name := "log", desc := "(II)I" } : Jvm.MethodName)) ∈ lw_all := lw_g (lw_at lw_m11 37 rfl) rfl
theorem q2542 : (Jvm.Cond.methodLink "OpenLinesLaw" (143 : Nat) ({ cls := "OpenLinesModel", name := "waiting", desc := "(I)I" } : Jvm.MethodName)) ∈ lw_all := lw_g (lw_at lw_m11 41 rfl) rfl
theorem q2546 : (Jvm.Cond.methodLink "OpenLinesLaw" (147 : Nat) ({ cls := "OpenLinesModel", name := "longest", desc := "()I" } : Jvm.MethodName)) ∈ lw_all := lw_g (lw_at lw_m11 45 rfl) rfl
theorem q2550 : (Jvm.Cond.methodLink "OpenLinesLaw" (151 : Nat) ({ cls := "OpenLinesModel", name := "will", desc := "(II)I" } : Jvm.MethodName)) ∈ lw_all := lw_g (lw_at lw_m11 49 rfl) rfl
theorem q2594 : (Jvm.Cond.methodLink "OpenLinesLaw" (155 : Nat) ({ cls := "OpenLinesModel", name := "till", desc := "(I)I" } : Jvm.MethodName)) ∈ lw_all := lw_g (lw_at lw_m11 93 rfl) rfl
theorem q2598 : (Jvm.Cond.methodLink "OpenLinesLaw" (40 : Nat) ({ cls := "OpenLinesModel", name := "about", desc := "(I)I" } : Jvm.MethodName)) ∈ lw_all := lw_g (lw_at lw_m11 97 rfl) rfl
theorem q2602 : (Jvm.Cond.methodLink "OpenLinesLaw" (45 : Nat) ({ cls := "OpenLinesModel", name := "board", desc := "(II)I" } : Jvm.MethodName)) ∈ lw_all := lw_g (lw_at lw_m11 101 rfl) rfl
theorem q2606 : (Jvm.Cond.methodLink "OpenLinesLaw" (49 : Nat) ({ cls := "OpenLinesModel", name := "named", desc := "(I)I" } : Jvm.MethodName)) ∈ lw_all := lw_g (lw_at lw_m11 105 rfl) rfl
theorem q2610 : (Jvm.Cond.methodLink "OpenLinesLaw" (53 : Nat) ({ cls := "OpenLinesModel", name := "word", desc := "(II)I" } : Jvm.MethodName)) ∈ lw_all := lw_g (lw_at lw_m11 109 rfl) rfl
theorem q2614 : (Jvm.Cond.methodLink "OpenLinesLaw" (159 : Nat) ({ cls := "OpenLinesModel", name := "ask", desc := "(II)I" } : Jvm.MethodName)) ∈ lw_all := lw_g (lw_at lw_m11 113 rfl) rfl
theorem q2618 : (Jvm.Cond.methodLink "OpenLinesLaw" (163 : Nat) ({ cls := "OpenLinesModel", name := "waits", desc := "(II)I" } : Jvm.MethodName)) ∈ lw_all := lw_g (lw_at lw_m11 117 rfl) rfl
theorem q2622 : (Jvm.Cond.methodLink "OpenLinesLaw" (167 : Nat) ({ cls := "OpenLinesModel", name := "stick", desc := "(II)I" } : Jvm.MethodName)) ∈ lw_all := lw_g (lw_at lw_m11 121 rfl) rfl
theorem q2626 : (Jvm.Cond.methodLink "OpenLinesLaw" (171 : Nat) ({ cls := "OpenLinesModel", name := "ticks", desc := "(I)I" } : Jvm.MethodName)) ∈ lw_all := lw_g (lw_at lw_m11 125 rfl) rfl
theorem q2630 : (Jvm.Cond.methodLink "OpenLinesLaw" (176 : Nat) ({ cls := "OpenLinesModel", name := "keep", desc := "()Z" } : Jvm.MethodName)) ∈ lw_all := lw_g (lw_at lw_m11 129 rfl) rfl
theorem q2634 : (Jvm.Cond.methodLink "OpenLinesLaw" (180 : Nat) ({ cls := "OpenLinesModel", name := "back", desc := "()Z" } : Jvm.MethodName)) ∈ lw_all := lw_g (lw_at lw_m11 133 rfl) rfl
theorem q2638 : (Jvm.Cond.methodLink "OpenLinesLaw" (186 : Nat) ({ cls := "OpenLinesModel", name := "never", desc := "(I)I" } : Jvm.MethodName)) ∈ lw_all := lw_g (lw_at lw_m11 137 rfl) rfl
theorem q2646 : (Jvm.Cond.methodLink "OpenLinesLaw" (193 : Nat) ({ cls := "OpenLinesModel", name := "size", desc := "(I)I" } : Jvm.MethodName)) ∈ lw_all := lw_g (lw_at lw_m11 145 rfl) rfl
theorem q2650 : (Jvm.Cond.methodLink "OpenLinesLaw" (197 : Nat) ({ cls := "OpenLinesModel", name := "trouble", desc := "()I" } : Jvm.MethodName)) ∈ lw_all := lw_g (lw_at lw_m11 149 rfl) rfl
/-! OpenLines$Run -/
set_option maxRecDepth 100000
def RX3 : String := "OpenLines$Run"
def TX3 : u_T := fun k => match k with
  | 0 => ("OpenLines$Run", "bus", "LOpenLines$Bus;", false)
  | 1 => ("OpenLines$Run", "isFresh", "[Z", true)
  | 2 => ("OpenLines$Run", "asks", "[I", true)
  | 3 => ("OpenLines$Run", "since", "[I", true)
  | 4 => ("OpenLines$Run", "waits", "[I", true)
  | 5 => ("OpenLines$Run", "lines", "[I", true)
  | 6 => ("OpenLines$Run", "words", "[I", true)
  | 7 => ("OpenLines$Run", "ledger", "[I", true)
  | 8 => ("OpenLines$Run", "time", "I", false)
  | 9 => ("OpenLines$Run", "master", "I", false)
  | 10 => ("OpenLines$Run", "masterTill", "I", false)
  | 11 => ("OpenLines$Run", "elect", "I", false)
  | 12 => ("OpenLines$Run", "through", "I", false)
  | 13 => ("OpenLines$Run", "contenders", "I", false)
  | 14 => ("OpenLines$Run", "rounds", "I", false)
  | 15 => ("OpenLines$Run", "arbitrations", "I", false)
  | 16 => ("OpenLines$Run", "failed", "I", false)
  | 17 => ("OpenLines$Run", "faulty", "I", false)
  | 18 => ("OpenLines$Run", "putOff", "I", false)
  | 19 => ("OpenLines$Run", "log", "Ljava/util/ArrayList;", true)
  | 20 => ("OpenLines$Run", "masters", "[I", true)
  | 21 => ("OpenLines$Run", "found", "I", false)
  | 22 => ("OpenLines$Run", "firstWinners", "I", false)
  | 23 => ("OpenLines$Run", "lastWinners", "I", false)
  | _ => ("OpenLines$Run", "this$0", "LOpenLines;", true)
def tyX3 : Nat → FieldType := fun k => match k with
  | 0 => .object "OpenLines$Bus"
  | 1 => .array .boolean
  | 2 => .array .int
  | 3 => .array .int
  | 4 => .array .int
  | 5 => .array .int
  | 6 => .array .int
  | 7 => .array .int
  | 8 => .int
  | 9 => .int
  | 10 => .int
  | 11 => .int
  | 12 => .int
  | 13 => .int
  | 14 => .int
  | 15 => .int
  | 16 => .int
  | 17 => .int
  | 18 => .int
  | 19 => .object "java/util/ArrayList"
  | 20 => .array .int
  | 21 => .int
  | 22 => .int
  | 23 => .int
  | _ => .object "OpenLines"
abbrev wsX30 : List Cond := u_ws RX3 TX3 25
set_option maxRecDepth 100000 in
theorem nmX3 : ∀ a, a < 25 → ∀ b, b < 25 → a ≠ b → (TX3 a).2.1 ≠ (TX3 b).2.1 := by decide +kernel
set_option maxRecDepth 100000 in
theorem tyX3_ok : ∀ k, k < 25 → parseFieldDescriptor (TX3 k).2.2.1 = some (tyX3 k) := by decide +kernel
abbrev cX3_init : ByteArray := prog_13_method_1_code
def yX3_init : MethodName := ⟨RX3, "<init>", "(LOpenLines;)V"⟩
def dkwX3_init_3 : List UInt8 := [16, 16, 183, 0, 40, 181, 0, 43, 42, 16, 64, 188, 10, 181, 0, 47, 177]
abbrev dktX3_init_3 : List UInt8 := dkwX3_init_3 ++ []
def dkwX3_init_2 : List UInt8 := [181, 0, 29, 42, 16, 6, 188, 10, 181, 0, 32, 42, 16, 36, 188, 10, 181, 0, 35, 42, 187, 0, 38, 89]
abbrev dktX3_init_2 : List UInt8 := dkwX3_init_2 ++ dktX3_init_3
def dkwX3_init_1 : List UInt8 := [181, 0, 19, 42, 16, 6, 188, 10, 181, 0, 23, 42, 16, 6, 188, 10, 181, 0, 26, 42, 16, 6, 188, 10]
abbrev dktX3_init_1 : List UInt8 := dkwX3_init_1 ++ dktX3_init_2
def dkwX3_init_0 : List UInt8 := [42, 43, 181, 0, 3, 42, 183, 0, 9, 42, 16, 6, 188, 4, 181, 0, 15, 42, 16, 6, 188, 10]
abbrev dktX3_init_0 : List UInt8 := dkwX3_init_0 ++ dktX3_init_1
theorem dksX3_init_0 : cX3_init.data.toList.drop 0 = dktX3_init_0 := by decide +kernel
theorem dksX3_init_1 : cX3_init.data.toList.drop 22 = dktX3_init_1 := dk_seg dksX3_init_0 22 rfl rfl
theorem dksX3_init_2 : cX3_init.data.toList.drop 46 = dktX3_init_2 := dk_seg dksX3_init_1 24 rfl rfl
theorem dksX3_init_3 : cX3_init.data.toList.drop 70 = dktX3_init_3 := dk_seg dksX3_init_2 24 rfl rfl
theorem dX3_init_0 : decode cX3_init 0 = .ok (.aload_n 0, 1) := dk_42 (dk_at dksX3_init_0 0 rfl rfl)
theorem dX3_init_1 : decode cX3_init 1 = .ok (.aload_n 1, 1) := dk_43 (dk_at dksX3_init_0 1 rfl rfl)
theorem dX3_init_2 : decode cX3_init 2 = .ok (.putfield 3, 3) := dk_181 0 3 (dk_at dksX3_init_0 2 rfl rfl)
theorem dX3_init_5 : decode cX3_init 5 = .ok (.aload_n 0, 1) := dk_42 (dk_at dksX3_init_0 5 rfl rfl)
theorem dX3_init_6 : decode cX3_init 6 = .ok (.invokespecial 9, 3) := dk_183 0 9 (dk_at dksX3_init_0 6 rfl rfl)
theorem dX3_init_9 : decode cX3_init 9 = .ok (.aload_n 0, 1) := dk_42 (dk_at dksX3_init_0 9 rfl rfl)
theorem dX3_init_10 : decode cX3_init 10 = .ok (.bipush 6, 2) := dk_16 6 (dk_at dksX3_init_0 10 rfl rfl)
theorem dX3_init_12 : decode cX3_init 12 = .ok (.newarray .boolean, 2) := dk_188_4 (dk_at dksX3_init_0 12 rfl rfl)
theorem dX3_init_14 : decode cX3_init 14 = .ok (.putfield 15, 3) := dk_181 0 15 (dk_at dksX3_init_0 14 rfl rfl)
theorem dX3_init_17 : decode cX3_init 17 = .ok (.aload_n 0, 1) := dk_42 (dk_at dksX3_init_0 17 rfl rfl)
theorem dX3_init_18 : decode cX3_init 18 = .ok (.bipush 6, 2) := dk_16 6 (dk_at dksX3_init_0 18 rfl rfl)
theorem dX3_init_20 : decode cX3_init 20 = .ok (.newarray .int, 2) := dk_188_10 (dk_at dksX3_init_0 20 rfl rfl)
theorem dX3_init_22 : decode cX3_init 22 = .ok (.putfield 19, 3) := dk_181 0 19 (dk_at dksX3_init_1 0 rfl rfl)
theorem dX3_init_25 : decode cX3_init 25 = .ok (.aload_n 0, 1) := dk_42 (dk_at dksX3_init_1 3 rfl rfl)
theorem dX3_init_26 : decode cX3_init 26 = .ok (.bipush 6, 2) := dk_16 6 (dk_at dksX3_init_1 4 rfl rfl)
theorem dX3_init_28 : decode cX3_init 28 = .ok (.newarray .int, 2) := dk_188_10 (dk_at dksX3_init_1 6 rfl rfl)
theorem dX3_init_30 : decode cX3_init 30 = .ok (.putfield 23, 3) := dk_181 0 23 (dk_at dksX3_init_1 8 rfl rfl)
theorem dX3_init_33 : decode cX3_init 33 = .ok (.aload_n 0, 1) := dk_42 (dk_at dksX3_init_1 11 rfl rfl)
theorem dX3_init_34 : decode cX3_init 34 = .ok (.bipush 6, 2) := dk_16 6 (dk_at dksX3_init_1 12 rfl rfl)
theorem dX3_init_36 : decode cX3_init 36 = .ok (.newarray .int, 2) := dk_188_10 (dk_at dksX3_init_1 14 rfl rfl)
theorem dX3_init_38 : decode cX3_init 38 = .ok (.putfield 26, 3) := dk_181 0 26 (dk_at dksX3_init_1 16 rfl rfl)
theorem dX3_init_41 : decode cX3_init 41 = .ok (.aload_n 0, 1) := dk_42 (dk_at dksX3_init_1 19 rfl rfl)
theorem dX3_init_42 : decode cX3_init 42 = .ok (.bipush 6, 2) := dk_16 6 (dk_at dksX3_init_1 20 rfl rfl)
theorem dX3_init_44 : decode cX3_init 44 = .ok (.newarray .int, 2) := dk_188_10 (dk_at dksX3_init_1 22 rfl rfl)
theorem dX3_init_46 : decode cX3_init 46 = .ok (.putfield 29, 3) := dk_181 0 29 (dk_at dksX3_init_2 0 rfl rfl)
theorem dX3_init_49 : decode cX3_init 49 = .ok (.aload_n 0, 1) := dk_42 (dk_at dksX3_init_2 3 rfl rfl)
theorem dX3_init_50 : decode cX3_init 50 = .ok (.bipush 6, 2) := dk_16 6 (dk_at dksX3_init_2 4 rfl rfl)
theorem dX3_init_52 : decode cX3_init 52 = .ok (.newarray .int, 2) := dk_188_10 (dk_at dksX3_init_2 6 rfl rfl)
theorem dX3_init_54 : decode cX3_init 54 = .ok (.putfield 32, 3) := dk_181 0 32 (dk_at dksX3_init_2 8 rfl rfl)
theorem dX3_init_57 : decode cX3_init 57 = .ok (.aload_n 0, 1) := dk_42 (dk_at dksX3_init_2 11 rfl rfl)
theorem dX3_init_58 : decode cX3_init 58 = .ok (.bipush 36, 2) := dk_16 36 (dk_at dksX3_init_2 12 rfl rfl)
theorem dX3_init_60 : decode cX3_init 60 = .ok (.newarray .int, 2) := dk_188_10 (dk_at dksX3_init_2 14 rfl rfl)
theorem dX3_init_62 : decode cX3_init 62 = .ok (.putfield 35, 3) := dk_181 0 35 (dk_at dksX3_init_2 16 rfl rfl)
theorem dX3_init_65 : decode cX3_init 65 = .ok (.aload_n 0, 1) := dk_42 (dk_at dksX3_init_2 19 rfl rfl)
theorem dX3_init_66 : decode cX3_init 66 = .ok (.new 38, 3) := dk_187 0 38 (dk_at dksX3_init_2 20 rfl rfl)
theorem dX3_init_69 : decode cX3_init 69 = .ok (.dup, 1) := dk_89 (dk_at dksX3_init_2 23 rfl rfl)
theorem dX3_init_70 : decode cX3_init 70 = .ok (.bipush 16, 2) := dk_16 16 (dk_at dksX3_init_3 0 rfl rfl)
theorem dX3_init_72 : decode cX3_init 72 = .ok (.invokespecial 40, 3) := dk_183 0 40 (dk_at dksX3_init_3 2 rfl rfl)
theorem dX3_init_75 : decode cX3_init 75 = .ok (.putfield 43, 3) := dk_181 0 43 (dk_at dksX3_init_3 5 rfl rfl)
theorem dX3_init_78 : decode cX3_init 78 = .ok (.aload_n 0, 1) := dk_42 (dk_at dksX3_init_3 8 rfl rfl)
theorem dX3_init_79 : decode cX3_init 79 = .ok (.bipush 64, 2) := dk_16 64 (dk_at dksX3_init_3 9 rfl rfl)
theorem dX3_init_81 : decode cX3_init 81 = .ok (.newarray .int, 2) := dk_188_10 (dk_at dksX3_init_3 11 rfl rfl)
theorem dX3_init_83 : decode cX3_init 83 = .ok (.putfield 47, 3) := dk_181 0 47 (dk_at dksX3_init_3 13 rfl rfl)
theorem dX3_init_86 : decode cX3_init 86 = .ok (.return_, 1) := dk_177 (dk_at dksX3_init_3 16 rfl rfl)
abbrev cX3_begins : ByteArray := prog_13_method_2_code
def yX3_begins : MethodName := ⟨RX3, "begins", "(LOpenLines$Bus;)V"⟩
def dkwX3_begins_8 : List UInt8 := [3, 181, 0, 85, 42, 3, 181, 0, 88, 177]
abbrev dktX3_begins_8 : List UInt8 := dkwX3_begins_8 ++ []
def dkwX3_begins_7 : List UInt8 := [181, 0, 70, 42, 3, 181, 0, 73, 42, 3, 181, 0, 76, 42, 3, 181, 0, 79, 42, 3, 181, 0, 82, 42]
abbrev dktX3_begins_7 : List UInt8 := dkwX3_begins_7 ++ dktX3_begins_8
def dkwX3_begins_6 : List UInt8 := [181, 0, 57, 42, 16, 254, 181, 0, 61, 42, 16, 254, 181, 0, 64, 42, 16, 254, 181, 0, 67, 42, 16, 254]
abbrev dktX3_begins_6 : List UInt8 := dkwX3_begins_6 ++ dktX3_begins_7
def dkwX3_begins_5 : List UInt8 := [3, 61, 28, 16, 6, 162, 0, 16, 42, 180, 0, 29, 28, 3, 79, 132, 2, 1, 167, 255, 240, 42, 3]
abbrev dktX3_begins_5 : List UInt8 := dkwX3_begins_5 ++ dktX3_begins_6
def dkwX3_begins_4 : List UInt8 := [29, 7, 160, 0, 8, 16, 254, 167, 0, 4, 3, 79, 132, 3, 1, 167, 255, 225, 132, 2, 1, 167, 255, 175]
abbrev dktX3_begins_4 : List UInt8 := dkwX3_begins_4 ++ dktX3_begins_5
def dkwX3_begins_3 : List UInt8 := [180, 0, 32, 28, 3, 79, 3, 62, 29, 16, 6, 162, 0, 31, 42, 180, 0, 35, 16, 6, 28, 104, 29, 96]
abbrev dktX3_begins_3 : List UInt8 := dkwX3_begins_3 ++ dktX3_begins_4
def dkwX3_begins_2 : List UInt8 := [84, 42, 180, 0, 19, 28, 3, 79, 42, 180, 0, 23, 28, 3, 79, 42, 180, 0, 26, 28, 16, 254, 79, 42]
abbrev dktX3_begins_2 : List UInt8 := dkwX3_begins_2 ++ dktX3_begins_3
def dkwX3_begins_1 : List UInt8 := [28, 16, 254, 79, 132, 2, 1, 167, 255, 239, 3, 61, 28, 16, 6, 162, 0, 81, 42, 180, 0, 15, 28, 4]
abbrev dktX3_begins_1 : List UInt8 := dkwX3_begins_1 ++ dktX3_begins_2
def dkwX3_begins_0 : List UInt8 := [42, 43, 181, 0, 50, 42, 180, 0, 43, 182, 0, 54, 3, 61, 28, 16, 64, 162, 0, 17, 42, 180, 0, 47]
abbrev dktX3_begins_0 : List UInt8 := dkwX3_begins_0 ++ dktX3_begins_1
theorem dksX3_begins_0 : cX3_begins.data.toList.drop 0 = dktX3_begins_0 := by decide +kernel
theorem dksX3_begins_1 : cX3_begins.data.toList.drop 24 = dktX3_begins_1 := dk_seg dksX3_begins_0 24 rfl rfl
theorem dksX3_begins_2 : cX3_begins.data.toList.drop 48 = dktX3_begins_2 := dk_seg dksX3_begins_1 24 rfl rfl
theorem dksX3_begins_3 : cX3_begins.data.toList.drop 72 = dktX3_begins_3 := dk_seg dksX3_begins_2 24 rfl rfl
theorem dksX3_begins_4 : cX3_begins.data.toList.drop 96 = dktX3_begins_4 := dk_seg dksX3_begins_3 24 rfl rfl
theorem dksX3_begins_5 : cX3_begins.data.toList.drop 120 = dktX3_begins_5 := dk_seg dksX3_begins_4 24 rfl rfl
theorem dksX3_begins_6 : cX3_begins.data.toList.drop 143 = dktX3_begins_6 := dk_seg dksX3_begins_5 23 rfl rfl
theorem dksX3_begins_7 : cX3_begins.data.toList.drop 167 = dktX3_begins_7 := dk_seg dksX3_begins_6 24 rfl rfl
theorem dksX3_begins_8 : cX3_begins.data.toList.drop 191 = dktX3_begins_8 := dk_seg dksX3_begins_7 24 rfl rfl
theorem dX3_begins_0 : decode cX3_begins 0 = .ok (.aload_n 0, 1) := dk_42 (dk_at dksX3_begins_0 0 rfl rfl)
theorem dX3_begins_1 : decode cX3_begins 1 = .ok (.aload_n 1, 1) := dk_43 (dk_at dksX3_begins_0 1 rfl rfl)
theorem dX3_begins_2 : decode cX3_begins 2 = .ok (.putfield 50, 3) := dk_181 0 50 (dk_at dksX3_begins_0 2 rfl rfl)
theorem dX3_begins_5 : decode cX3_begins 5 = .ok (.aload_n 0, 1) := dk_42 (dk_at dksX3_begins_0 5 rfl rfl)
theorem dX3_begins_6 : decode cX3_begins 6 = .ok (.getfield 43, 3) := dk_180 0 43 (dk_at dksX3_begins_0 6 rfl rfl)
theorem dX3_begins_9 : decode cX3_begins 9 = .ok (.invokevirtual 54, 3) := dk_182 0 54 (dk_at dksX3_begins_0 9 rfl rfl)
theorem dX3_begins_12 : decode cX3_begins 12 = .ok (.iconst 0, 1) := dk_3 (dk_at dksX3_begins_0 12 rfl rfl)
theorem dX3_begins_13 : decode cX3_begins 13 = .ok (.istore_n 2, 1) := dk_61 (dk_at dksX3_begins_0 13 rfl rfl)
theorem dX3_begins_14 : decode cX3_begins 14 = .ok (.iload_n 2, 1) := dk_28 (dk_at dksX3_begins_0 14 rfl rfl)
theorem dX3_begins_15 : decode cX3_begins 15 = .ok (.bipush 64, 2) := dk_16 64 (dk_at dksX3_begins_0 15 rfl rfl)
theorem dX3_begins_17 : decode cX3_begins 17 = .ok (.if_icmp .ge 17, 3) := dk_162 0 17 (dk_at dksX3_begins_0 17 rfl rfl)
theorem dX3_begins_20 : decode cX3_begins 20 = .ok (.aload_n 0, 1) := dk_42 (dk_at dksX3_begins_0 20 rfl rfl)
theorem dX3_begins_21 : decode cX3_begins 21 = .ok (.getfield 47, 3) := dk_180 0 47 (dk_at dksX3_begins_0 21 rfl rfl)
theorem dX3_begins_24 : decode cX3_begins 24 = .ok (.iload_n 2, 1) := dk_28 (dk_at dksX3_begins_1 0 rfl rfl)
theorem dX3_begins_25 : decode cX3_begins 25 = .ok (.bipush (-2), 2) := dk_16 254 (dk_at dksX3_begins_1 1 rfl rfl)
theorem dX3_begins_27 : decode cX3_begins 27 = .ok (.iastore, 1) := dk_79 (dk_at dksX3_begins_1 3 rfl rfl)
theorem dX3_begins_28 : decode cX3_begins 28 = .ok (.iinc 2 1, 3) := dk_132 2 1 (dk_at dksX3_begins_1 4 rfl rfl)
theorem dX3_begins_31 : decode cX3_begins 31 = .ok (.goto (-17), 3) := dk_167 255 239 (dk_at dksX3_begins_1 7 rfl rfl)
theorem dX3_begins_34 : decode cX3_begins 34 = .ok (.iconst 0, 1) := dk_3 (dk_at dksX3_begins_1 10 rfl rfl)
theorem dX3_begins_35 : decode cX3_begins 35 = .ok (.istore_n 2, 1) := dk_61 (dk_at dksX3_begins_1 11 rfl rfl)
theorem dX3_begins_36 : decode cX3_begins 36 = .ok (.iload_n 2, 1) := dk_28 (dk_at dksX3_begins_1 12 rfl rfl)
theorem dX3_begins_37 : decode cX3_begins 37 = .ok (.bipush 6, 2) := dk_16 6 (dk_at dksX3_begins_1 13 rfl rfl)
theorem dX3_begins_39 : decode cX3_begins 39 = .ok (.if_icmp .ge 81, 3) := dk_162 0 81 (dk_at dksX3_begins_1 15 rfl rfl)
theorem dX3_begins_42 : decode cX3_begins 42 = .ok (.aload_n 0, 1) := dk_42 (dk_at dksX3_begins_1 18 rfl rfl)
theorem dX3_begins_43 : decode cX3_begins 43 = .ok (.getfield 15, 3) := dk_180 0 15 (dk_at dksX3_begins_1 19 rfl rfl)
theorem dX3_begins_46 : decode cX3_begins 46 = .ok (.iload_n 2, 1) := dk_28 (dk_at dksX3_begins_1 22 rfl rfl)
theorem dX3_begins_47 : decode cX3_begins 47 = .ok (.iconst 1, 1) := dk_4 (dk_at dksX3_begins_1 23 rfl rfl)
theorem dX3_begins_48 : decode cX3_begins 48 = .ok (.bastore, 1) := dk_84 (dk_at dksX3_begins_2 0 rfl rfl)
theorem dX3_begins_49 : decode cX3_begins 49 = .ok (.aload_n 0, 1) := dk_42 (dk_at dksX3_begins_2 1 rfl rfl)
theorem dX3_begins_50 : decode cX3_begins 50 = .ok (.getfield 19, 3) := dk_180 0 19 (dk_at dksX3_begins_2 2 rfl rfl)
theorem dX3_begins_53 : decode cX3_begins 53 = .ok (.iload_n 2, 1) := dk_28 (dk_at dksX3_begins_2 5 rfl rfl)
theorem dX3_begins_54 : decode cX3_begins 54 = .ok (.iconst 0, 1) := dk_3 (dk_at dksX3_begins_2 6 rfl rfl)
theorem dX3_begins_55 : decode cX3_begins 55 = .ok (.iastore, 1) := dk_79 (dk_at dksX3_begins_2 7 rfl rfl)
theorem dX3_begins_56 : decode cX3_begins 56 = .ok (.aload_n 0, 1) := dk_42 (dk_at dksX3_begins_2 8 rfl rfl)
theorem dX3_begins_57 : decode cX3_begins 57 = .ok (.getfield 23, 3) := dk_180 0 23 (dk_at dksX3_begins_2 9 rfl rfl)
theorem dX3_begins_60 : decode cX3_begins 60 = .ok (.iload_n 2, 1) := dk_28 (dk_at dksX3_begins_2 12 rfl rfl)
theorem dX3_begins_61 : decode cX3_begins 61 = .ok (.iconst 0, 1) := dk_3 (dk_at dksX3_begins_2 13 rfl rfl)
theorem dX3_begins_62 : decode cX3_begins 62 = .ok (.iastore, 1) := dk_79 (dk_at dksX3_begins_2 14 rfl rfl)
theorem dX3_begins_63 : decode cX3_begins 63 = .ok (.aload_n 0, 1) := dk_42 (dk_at dksX3_begins_2 15 rfl rfl)
theorem dX3_begins_64 : decode cX3_begins 64 = .ok (.getfield 26, 3) := dk_180 0 26 (dk_at dksX3_begins_2 16 rfl rfl)
theorem dX3_begins_67 : decode cX3_begins 67 = .ok (.iload_n 2, 1) := dk_28 (dk_at dksX3_begins_2 19 rfl rfl)
theorem dX3_begins_68 : decode cX3_begins 68 = .ok (.bipush (-2), 2) := dk_16 254 (dk_at dksX3_begins_2 20 rfl rfl)
theorem dX3_begins_70 : decode cX3_begins 70 = .ok (.iastore, 1) := dk_79 (dk_at dksX3_begins_2 22 rfl rfl)
theorem dX3_begins_71 : decode cX3_begins 71 = .ok (.aload_n 0, 1) := dk_42 (dk_at dksX3_begins_2 23 rfl rfl)
theorem dX3_begins_72 : decode cX3_begins 72 = .ok (.getfield 32, 3) := dk_180 0 32 (dk_at dksX3_begins_3 0 rfl rfl)
theorem dX3_begins_75 : decode cX3_begins 75 = .ok (.iload_n 2, 1) := dk_28 (dk_at dksX3_begins_3 3 rfl rfl)
theorem dX3_begins_76 : decode cX3_begins 76 = .ok (.iconst 0, 1) := dk_3 (dk_at dksX3_begins_3 4 rfl rfl)
theorem dX3_begins_77 : decode cX3_begins 77 = .ok (.iastore, 1) := dk_79 (dk_at dksX3_begins_3 5 rfl rfl)
theorem dX3_begins_78 : decode cX3_begins 78 = .ok (.iconst 0, 1) := dk_3 (dk_at dksX3_begins_3 6 rfl rfl)
theorem dX3_begins_79 : decode cX3_begins 79 = .ok (.istore_n 3, 1) := dk_62 (dk_at dksX3_begins_3 7 rfl rfl)
theorem dX3_begins_80 : decode cX3_begins 80 = .ok (.iload_n 3, 1) := dk_29 (dk_at dksX3_begins_3 8 rfl rfl)
theorem dX3_begins_81 : decode cX3_begins 81 = .ok (.bipush 6, 2) := dk_16 6 (dk_at dksX3_begins_3 9 rfl rfl)
theorem dX3_begins_83 : decode cX3_begins 83 = .ok (.if_icmp .ge 31, 3) := dk_162 0 31 (dk_at dksX3_begins_3 11 rfl rfl)
theorem dX3_begins_86 : decode cX3_begins 86 = .ok (.aload_n 0, 1) := dk_42 (dk_at dksX3_begins_3 14 rfl rfl)
theorem dX3_begins_87 : decode cX3_begins 87 = .ok (.getfield 35, 3) := dk_180 0 35 (dk_at dksX3_begins_3 15 rfl rfl)
theorem dX3_begins_90 : decode cX3_begins 90 = .ok (.bipush 6, 2) := dk_16 6 (dk_at dksX3_begins_3 18 rfl rfl)
theorem dX3_begins_92 : decode cX3_begins 92 = .ok (.iload_n 2, 1) := dk_28 (dk_at dksX3_begins_3 20 rfl rfl)
theorem dX3_begins_93 : decode cX3_begins 93 = .ok (.imul, 1) := dk_104 (dk_at dksX3_begins_3 21 rfl rfl)
theorem dX3_begins_94 : decode cX3_begins 94 = .ok (.iload_n 3, 1) := dk_29 (dk_at dksX3_begins_3 22 rfl rfl)
theorem dX3_begins_95 : decode cX3_begins 95 = .ok (.iadd, 1) := dk_96 (dk_at dksX3_begins_3 23 rfl rfl)
theorem dX3_begins_96 : decode cX3_begins 96 = .ok (.iload_n 3, 1) := dk_29 (dk_at dksX3_begins_4 0 rfl rfl)
theorem dX3_begins_97 : decode cX3_begins 97 = .ok (.iconst 4, 1) := dk_7 (dk_at dksX3_begins_4 1 rfl rfl)
theorem dX3_begins_98 : decode cX3_begins 98 = .ok (.if_icmp .ne 8, 3) := dk_160 0 8 (dk_at dksX3_begins_4 2 rfl rfl)
theorem dX3_begins_101 : decode cX3_begins 101 = .ok (.bipush (-2), 2) := dk_16 254 (dk_at dksX3_begins_4 5 rfl rfl)
theorem dX3_begins_103 : decode cX3_begins 103 = .ok (.goto 4, 3) := dk_167 0 4 (dk_at dksX3_begins_4 7 rfl rfl)
theorem dX3_begins_106 : decode cX3_begins 106 = .ok (.iconst 0, 1) := dk_3 (dk_at dksX3_begins_4 10 rfl rfl)
theorem dX3_begins_107 : decode cX3_begins 107 = .ok (.iastore, 1) := dk_79 (dk_at dksX3_begins_4 11 rfl rfl)
theorem dX3_begins_108 : decode cX3_begins 108 = .ok (.iinc 3 1, 3) := dk_132 3 1 (dk_at dksX3_begins_4 12 rfl rfl)
theorem dX3_begins_111 : decode cX3_begins 111 = .ok (.goto (-31), 3) := dk_167 255 225 (dk_at dksX3_begins_4 15 rfl rfl)
theorem dX3_begins_114 : decode cX3_begins 114 = .ok (.iinc 2 1, 3) := dk_132 2 1 (dk_at dksX3_begins_4 18 rfl rfl)
theorem dX3_begins_117 : decode cX3_begins 117 = .ok (.goto (-81), 3) := dk_167 255 175 (dk_at dksX3_begins_4 21 rfl rfl)
theorem dX3_begins_120 : decode cX3_begins 120 = .ok (.iconst 0, 1) := dk_3 (dk_at dksX3_begins_5 0 rfl rfl)
theorem dX3_begins_121 : decode cX3_begins 121 = .ok (.istore_n 2, 1) := dk_61 (dk_at dksX3_begins_5 1 rfl rfl)
theorem dX3_begins_122 : decode cX3_begins 122 = .ok (.iload_n 2, 1) := dk_28 (dk_at dksX3_begins_5 2 rfl rfl)
theorem dX3_begins_123 : decode cX3_begins 123 = .ok (.bipush 6, 2) := dk_16 6 (dk_at dksX3_begins_5 3 rfl rfl)
theorem dX3_begins_125 : decode cX3_begins 125 = .ok (.if_icmp .ge 16, 3) := dk_162 0 16 (dk_at dksX3_begins_5 5 rfl rfl)
theorem dX3_begins_128 : decode cX3_begins 128 = .ok (.aload_n 0, 1) := dk_42 (dk_at dksX3_begins_5 8 rfl rfl)
theorem dX3_begins_129 : decode cX3_begins 129 = .ok (.getfield 29, 3) := dk_180 0 29 (dk_at dksX3_begins_5 9 rfl rfl)
theorem dX3_begins_132 : decode cX3_begins 132 = .ok (.iload_n 2, 1) := dk_28 (dk_at dksX3_begins_5 12 rfl rfl)
theorem dX3_begins_133 : decode cX3_begins 133 = .ok (.iconst 0, 1) := dk_3 (dk_at dksX3_begins_5 13 rfl rfl)
theorem dX3_begins_134 : decode cX3_begins 134 = .ok (.iastore, 1) := dk_79 (dk_at dksX3_begins_5 14 rfl rfl)
theorem dX3_begins_135 : decode cX3_begins 135 = .ok (.iinc 2 1, 3) := dk_132 2 1 (dk_at dksX3_begins_5 15 rfl rfl)
theorem dX3_begins_138 : decode cX3_begins 138 = .ok (.goto (-16), 3) := dk_167 255 240 (dk_at dksX3_begins_5 18 rfl rfl)
theorem dX3_begins_141 : decode cX3_begins 141 = .ok (.aload_n 0, 1) := dk_42 (dk_at dksX3_begins_5 21 rfl rfl)
theorem dX3_begins_142 : decode cX3_begins 142 = .ok (.iconst 0, 1) := dk_3 (dk_at dksX3_begins_5 22 rfl rfl)
theorem dX3_begins_143 : decode cX3_begins 143 = .ok (.putfield 57, 3) := dk_181 0 57 (dk_at dksX3_begins_6 0 rfl rfl)
theorem dX3_begins_146 : decode cX3_begins 146 = .ok (.aload_n 0, 1) := dk_42 (dk_at dksX3_begins_6 3 rfl rfl)
theorem dX3_begins_147 : decode cX3_begins 147 = .ok (.bipush (-2), 2) := dk_16 254 (dk_at dksX3_begins_6 4 rfl rfl)
theorem dX3_begins_149 : decode cX3_begins 149 = .ok (.putfield 61, 3) := dk_181 0 61 (dk_at dksX3_begins_6 6 rfl rfl)
theorem dX3_begins_152 : decode cX3_begins 152 = .ok (.aload_n 0, 1) := dk_42 (dk_at dksX3_begins_6 9 rfl rfl)
theorem dX3_begins_153 : decode cX3_begins 153 = .ok (.bipush (-2), 2) := dk_16 254 (dk_at dksX3_begins_6 10 rfl rfl)
theorem dX3_begins_155 : decode cX3_begins 155 = .ok (.putfield 64, 3) := dk_181 0 64 (dk_at dksX3_begins_6 12 rfl rfl)
theorem dX3_begins_158 : decode cX3_begins 158 = .ok (.aload_n 0, 1) := dk_42 (dk_at dksX3_begins_6 15 rfl rfl)
theorem dX3_begins_159 : decode cX3_begins 159 = .ok (.bipush (-2), 2) := dk_16 254 (dk_at dksX3_begins_6 16 rfl rfl)
theorem dX3_begins_161 : decode cX3_begins 161 = .ok (.putfield 67, 3) := dk_181 0 67 (dk_at dksX3_begins_6 18 rfl rfl)
theorem dX3_begins_164 : decode cX3_begins 164 = .ok (.aload_n 0, 1) := dk_42 (dk_at dksX3_begins_6 21 rfl rfl)
theorem dX3_begins_165 : decode cX3_begins 165 = .ok (.bipush (-2), 2) := dk_16 254 (dk_at dksX3_begins_6 22 rfl rfl)
theorem dX3_begins_167 : decode cX3_begins 167 = .ok (.putfield 70, 3) := dk_181 0 70 (dk_at dksX3_begins_7 0 rfl rfl)
theorem dX3_begins_170 : decode cX3_begins 170 = .ok (.aload_n 0, 1) := dk_42 (dk_at dksX3_begins_7 3 rfl rfl)
theorem dX3_begins_171 : decode cX3_begins 171 = .ok (.iconst 0, 1) := dk_3 (dk_at dksX3_begins_7 4 rfl rfl)
theorem dX3_begins_172 : decode cX3_begins 172 = .ok (.putfield 73, 3) := dk_181 0 73 (dk_at dksX3_begins_7 5 rfl rfl)
theorem dX3_begins_175 : decode cX3_begins 175 = .ok (.aload_n 0, 1) := dk_42 (dk_at dksX3_begins_7 8 rfl rfl)
theorem dX3_begins_176 : decode cX3_begins 176 = .ok (.iconst 0, 1) := dk_3 (dk_at dksX3_begins_7 9 rfl rfl)
theorem dX3_begins_177 : decode cX3_begins 177 = .ok (.putfield 76, 3) := dk_181 0 76 (dk_at dksX3_begins_7 10 rfl rfl)
theorem dX3_begins_180 : decode cX3_begins 180 = .ok (.aload_n 0, 1) := dk_42 (dk_at dksX3_begins_7 13 rfl rfl)
theorem dX3_begins_181 : decode cX3_begins 181 = .ok (.iconst 0, 1) := dk_3 (dk_at dksX3_begins_7 14 rfl rfl)
theorem dX3_begins_182 : decode cX3_begins 182 = .ok (.putfield 79, 3) := dk_181 0 79 (dk_at dksX3_begins_7 15 rfl rfl)
theorem dX3_begins_185 : decode cX3_begins 185 = .ok (.aload_n 0, 1) := dk_42 (dk_at dksX3_begins_7 18 rfl rfl)
theorem dX3_begins_186 : decode cX3_begins 186 = .ok (.iconst 0, 1) := dk_3 (dk_at dksX3_begins_7 19 rfl rfl)
theorem dX3_begins_187 : decode cX3_begins 187 = .ok (.putfield 82, 3) := dk_181 0 82 (dk_at dksX3_begins_7 20 rfl rfl)
theorem dX3_begins_190 : decode cX3_begins 190 = .ok (.aload_n 0, 1) := dk_42 (dk_at dksX3_begins_7 23 rfl rfl)
theorem dX3_begins_191 : decode cX3_begins 191 = .ok (.iconst 0, 1) := dk_3 (dk_at dksX3_begins_8 0 rfl rfl)
theorem dX3_begins_192 : decode cX3_begins 192 = .ok (.putfield 85, 3) := dk_181 0 85 (dk_at dksX3_begins_8 1 rfl rfl)
theorem dX3_begins_195 : decode cX3_begins 195 = .ok (.aload_n 0, 1) := dk_42 (dk_at dksX3_begins_8 4 rfl rfl)
theorem dX3_begins_196 : decode cX3_begins 196 = .ok (.iconst 0, 1) := dk_3 (dk_at dksX3_begins_8 5 rfl rfl)
theorem dX3_begins_197 : decode cX3_begins 197 = .ok (.putfield 88, 3) := dk_181 0 88 (dk_at dksX3_begins_8 6 rfl rfl)
theorem dX3_begins_200 : decode cX3_begins 200 = .ok (.return_, 1) := dk_177 (dk_at dksX3_begins_8 9 rfl rfl)
abbrev cX3_waitsFor : ByteArray := prog_13_method_5_code
def yX3_waitsFor : MethodName := ⟨RX3, "waitsFor", "(II)Z"⟩
def dkwX3_waitsFor_1 : List UInt8 := [62, 167, 255, 238, 29, 28, 160, 0, 7, 4, 167, 0, 4, 3, 172]
abbrev dktX3_waitsFor_1 : List UInt8 := dkwX3_waitsFor_1 ++ []
def dkwX3_waitsFor_0 : List UInt8 := [42, 180, 0, 26, 27, 46, 62, 29, 16, 254, 159, 0, 18, 29, 28, 159, 0, 13, 42, 180, 0, 26, 29, 46]
abbrev dktX3_waitsFor_0 : List UInt8 := dkwX3_waitsFor_0 ++ dktX3_waitsFor_1
theorem dksX3_waitsFor_0 : cX3_waitsFor.data.toList.drop 0 = dktX3_waitsFor_0 := by decide +kernel
theorem dksX3_waitsFor_1 : cX3_waitsFor.data.toList.drop 24 = dktX3_waitsFor_1 := dk_seg dksX3_waitsFor_0 24 rfl rfl
theorem dX3_waitsFor_0 : decode cX3_waitsFor 0 = .ok (.aload_n 0, 1) := dk_42 (dk_at dksX3_waitsFor_0 0 rfl rfl)
theorem dX3_waitsFor_1 : decode cX3_waitsFor 1 = .ok (.getfield 26, 3) := dk_180 0 26 (dk_at dksX3_waitsFor_0 1 rfl rfl)
theorem dX3_waitsFor_4 : decode cX3_waitsFor 4 = .ok (.iload_n 1, 1) := dk_27 (dk_at dksX3_waitsFor_0 4 rfl rfl)
theorem dX3_waitsFor_5 : decode cX3_waitsFor 5 = .ok (.iaload, 1) := dk_46 (dk_at dksX3_waitsFor_0 5 rfl rfl)
theorem dX3_waitsFor_6 : decode cX3_waitsFor 6 = .ok (.istore_n 3, 1) := dk_62 (dk_at dksX3_waitsFor_0 6 rfl rfl)
theorem dX3_waitsFor_7 : decode cX3_waitsFor 7 = .ok (.iload_n 3, 1) := dk_29 (dk_at dksX3_waitsFor_0 7 rfl rfl)
theorem dX3_waitsFor_8 : decode cX3_waitsFor 8 = .ok (.bipush (-2), 2) := dk_16 254 (dk_at dksX3_waitsFor_0 8 rfl rfl)
theorem dX3_waitsFor_10 : decode cX3_waitsFor 10 = .ok (.if_icmp .eq 18, 3) := dk_159 0 18 (dk_at dksX3_waitsFor_0 10 rfl rfl)
theorem dX3_waitsFor_13 : decode cX3_waitsFor 13 = .ok (.iload_n 3, 1) := dk_29 (dk_at dksX3_waitsFor_0 13 rfl rfl)
theorem dX3_waitsFor_14 : decode cX3_waitsFor 14 = .ok (.iload_n 2, 1) := dk_28 (dk_at dksX3_waitsFor_0 14 rfl rfl)
theorem dX3_waitsFor_15 : decode cX3_waitsFor 15 = .ok (.if_icmp .eq 13, 3) := dk_159 0 13 (dk_at dksX3_waitsFor_0 15 rfl rfl)
theorem dX3_waitsFor_18 : decode cX3_waitsFor 18 = .ok (.aload_n 0, 1) := dk_42 (dk_at dksX3_waitsFor_0 18 rfl rfl)
theorem dX3_waitsFor_19 : decode cX3_waitsFor 19 = .ok (.getfield 26, 3) := dk_180 0 26 (dk_at dksX3_waitsFor_0 19 rfl rfl)
theorem dX3_waitsFor_22 : decode cX3_waitsFor 22 = .ok (.iload_n 3, 1) := dk_29 (dk_at dksX3_waitsFor_0 22 rfl rfl)
theorem dX3_waitsFor_23 : decode cX3_waitsFor 23 = .ok (.iaload, 1) := dk_46 (dk_at dksX3_waitsFor_0 23 rfl rfl)
theorem dX3_waitsFor_24 : decode cX3_waitsFor 24 = .ok (.istore_n 3, 1) := dk_62 (dk_at dksX3_waitsFor_1 0 rfl rfl)
theorem dX3_waitsFor_25 : decode cX3_waitsFor 25 = .ok (.goto (-18), 3) := dk_167 255 238 (dk_at dksX3_waitsFor_1 1 rfl rfl)
theorem dX3_waitsFor_28 : decode cX3_waitsFor 28 = .ok (.iload_n 3, 1) := dk_29 (dk_at dksX3_waitsFor_1 4 rfl rfl)
theorem dX3_waitsFor_29 : decode cX3_waitsFor 29 = .ok (.iload_n 2, 1) := dk_28 (dk_at dksX3_waitsFor_1 5 rfl rfl)
theorem dX3_waitsFor_30 : decode cX3_waitsFor 30 = .ok (.if_icmp .ne 7, 3) := dk_160 0 7 (dk_at dksX3_waitsFor_1 6 rfl rfl)
theorem dX3_waitsFor_33 : decode cX3_waitsFor 33 = .ok (.iconst 1, 1) := dk_4 (dk_at dksX3_waitsFor_1 9 rfl rfl)
theorem dX3_waitsFor_34 : decode cX3_waitsFor 34 = .ok (.goto 4, 3) := dk_167 0 4 (dk_at dksX3_waitsFor_1 10 rfl rfl)
theorem dX3_waitsFor_37 : decode cX3_waitsFor 37 = .ok (.iconst 0, 1) := dk_3 (dk_at dksX3_waitsFor_1 13 rfl rfl)
theorem dX3_waitsFor_38 : decode cX3_waitsFor 38 = .ok (.ireturn, 1) := dk_172 (dk_at dksX3_waitsFor_1 14 rfl rfl)
abbrev cX3_passes : ByteArray := prog_13_method_10_code
def yX3_passes : MethodName := ⟨RX3, "passes", "(ILOpenLines$Word;)I"⟩
def dkwX3_passes_9 : List UInt8 := [167, 0, 5, 16, 254, 172]
abbrev dktX3_passes_9 : List UInt8 := dkwX3_passes_9 ++ []
def dkwX3_passes_8 : List UInt8 := [180, 0, 161, 4, 96, 181, 0, 161, 21, 4, 184, 0, 193, 4, 160, 0, 11, 21, 4, 184, 0, 198]
abbrev dktX3_passes_8 : List UInt8 := dkwX3_passes_8 ++ dktX3_passes_9
def dkwX3_passes_7 : List UInt8 := [42, 180, 0, 3, 180, 0, 167, 42, 180, 0, 50, 180, 0, 126, 182, 0, 184, 153, 0, 13, 42, 89]
abbrev dktX3_passes_7 : List UInt8 := dkwX3_passes_7 ++ dktX3_passes_8
def dkwX3_passes_6 : List UInt8 := [180, 0, 3, 180, 0, 167, 42, 180, 0, 50, 180, 0, 126, 182, 0, 177, 54, 4, 42, 21, 4, 181, 0, 164]
abbrev dktX3_passes_6 : List UInt8 := dkwX3_passes_6 ++ dktX3_passes_7
def dkwX3_passes_5 : List UInt8 := [187, 0, 188, 89, 42, 183, 0, 190, 42, 180, 0, 29, 42, 180, 0, 50, 180, 0, 126, 182, 0, 171, 87, 42]
abbrev dktX3_passes_5 : List UInt8 := dkwX3_passes_5 ++ dktX3_passes_6
def dkwX3_passes_4 : List UInt8 := [4, 96, 181, 0, 161, 29, 154, 0, 6, 16, 254, 172, 42, 180, 0, 3, 180, 0, 167, 42, 180, 0, 50, 29]
abbrev dktX3_passes_4 : List UInt8 := dkwX3_passes_4 ++ dktX3_passes_5
def dkwX3_passes_3 : List UInt8 := [180, 0, 3, 180, 0, 167, 42, 180, 0, 50, 180, 0, 126, 182, 0, 184, 153, 0, 13, 42, 89, 180, 0, 161]
abbrev dktX3_passes_3 : List UInt8 := dkwX3_passes_3 ++ dktX3_passes_4
def dkwX3_passes_2 : List UInt8 := [180, 0, 3, 180, 0, 167, 42, 180, 0, 50, 180, 0, 126, 182, 0, 177, 62, 42, 29, 181, 0, 181, 42]
abbrev dktX3_passes_2 : List UInt8 := dkwX3_passes_2 ++ dktX3_passes_3
def dkwX3_passes_1 : List UInt8 := [42, 180, 0, 50, 27, 44, 42, 180, 0, 29, 42, 180, 0, 50, 180, 0, 126, 182, 0, 171, 87, 42]
abbrev dktX3_passes_1 : List UInt8 := dkwX3_passes_1 ++ dktX3_passes_2
def dkwX3_passes_0 : List UInt8 := [42, 180, 0, 3, 182, 0, 158, 42, 3, 181, 0, 161, 42, 3, 181, 0, 164, 42, 180, 0, 3, 180, 0, 167]
abbrev dktX3_passes_0 : List UInt8 := dkwX3_passes_0 ++ dktX3_passes_1
theorem dksX3_passes_0 : cX3_passes.data.toList.drop 0 = dktX3_passes_0 := by decide +kernel
theorem dksX3_passes_1 : cX3_passes.data.toList.drop 24 = dktX3_passes_1 := dk_seg dksX3_passes_0 24 rfl rfl
theorem dksX3_passes_2 : cX3_passes.data.toList.drop 46 = dktX3_passes_2 := dk_seg dksX3_passes_1 22 rfl rfl
theorem dksX3_passes_3 : cX3_passes.data.toList.drop 69 = dktX3_passes_3 := dk_seg dksX3_passes_2 23 rfl rfl
theorem dksX3_passes_4 : cX3_passes.data.toList.drop 93 = dktX3_passes_4 := dk_seg dksX3_passes_3 24 rfl rfl
theorem dksX3_passes_5 : cX3_passes.data.toList.drop 117 = dktX3_passes_5 := dk_seg dksX3_passes_4 24 rfl rfl
theorem dksX3_passes_6 : cX3_passes.data.toList.drop 141 = dktX3_passes_6 := dk_seg dksX3_passes_5 24 rfl rfl
theorem dksX3_passes_7 : cX3_passes.data.toList.drop 165 = dktX3_passes_7 := dk_seg dksX3_passes_6 24 rfl rfl
theorem dksX3_passes_8 : cX3_passes.data.toList.drop 187 = dktX3_passes_8 := dk_seg dksX3_passes_7 22 rfl rfl
theorem dksX3_passes_9 : cX3_passes.data.toList.drop 209 = dktX3_passes_9 := dk_seg dksX3_passes_8 22 rfl rfl
theorem dX3_passes_0 : decode cX3_passes 0 = .ok (.aload_n 0, 1) := dk_42 (dk_at dksX3_passes_0 0 rfl rfl)
theorem dX3_passes_1 : decode cX3_passes 1 = .ok (.getfield 3, 3) := dk_180 0 3 (dk_at dksX3_passes_0 1 rfl rfl)
theorem dX3_passes_4 : decode cX3_passes 4 = .ok (.invokevirtual 158, 3) := dk_182 0 158 (dk_at dksX3_passes_0 4 rfl rfl)
theorem dX3_passes_7 : decode cX3_passes 7 = .ok (.aload_n 0, 1) := dk_42 (dk_at dksX3_passes_0 7 rfl rfl)
theorem dX3_passes_8 : decode cX3_passes 8 = .ok (.iconst 0, 1) := dk_3 (dk_at dksX3_passes_0 8 rfl rfl)
theorem dX3_passes_9 : decode cX3_passes 9 = .ok (.putfield 161, 3) := dk_181 0 161 (dk_at dksX3_passes_0 9 rfl rfl)
theorem dX3_passes_12 : decode cX3_passes 12 = .ok (.aload_n 0, 1) := dk_42 (dk_at dksX3_passes_0 12 rfl rfl)
theorem dX3_passes_13 : decode cX3_passes 13 = .ok (.iconst 0, 1) := dk_3 (dk_at dksX3_passes_0 13 rfl rfl)
theorem dX3_passes_14 : decode cX3_passes 14 = .ok (.putfield 164, 3) := dk_181 0 164 (dk_at dksX3_passes_0 14 rfl rfl)
theorem dX3_passes_17 : decode cX3_passes 17 = .ok (.aload_n 0, 1) := dk_42 (dk_at dksX3_passes_0 17 rfl rfl)
theorem dX3_passes_18 : decode cX3_passes 18 = .ok (.getfield 3, 3) := dk_180 0 3 (dk_at dksX3_passes_0 18 rfl rfl)
theorem dX3_passes_21 : decode cX3_passes 21 = .ok (.getfield 167, 3) := dk_180 0 167 (dk_at dksX3_passes_0 21 rfl rfl)
theorem dX3_passes_24 : decode cX3_passes 24 = .ok (.aload_n 0, 1) := dk_42 (dk_at dksX3_passes_1 0 rfl rfl)
theorem dX3_passes_25 : decode cX3_passes 25 = .ok (.getfield 50, 3) := dk_180 0 50 (dk_at dksX3_passes_1 1 rfl rfl)
theorem dX3_passes_28 : decode cX3_passes 28 = .ok (.iload_n 1, 1) := dk_27 (dk_at dksX3_passes_1 4 rfl rfl)
theorem dX3_passes_29 : decode cX3_passes 29 = .ok (.aload_n 2, 1) := dk_44 (dk_at dksX3_passes_1 5 rfl rfl)
theorem dX3_passes_30 : decode cX3_passes 30 = .ok (.aload_n 0, 1) := dk_42 (dk_at dksX3_passes_1 6 rfl rfl)
theorem dX3_passes_31 : decode cX3_passes 31 = .ok (.getfield 29, 3) := dk_180 0 29 (dk_at dksX3_passes_1 7 rfl rfl)
theorem dX3_passes_34 : decode cX3_passes 34 = .ok (.aload_n 0, 1) := dk_42 (dk_at dksX3_passes_1 10 rfl rfl)
theorem dX3_passes_35 : decode cX3_passes 35 = .ok (.getfield 50, 3) := dk_180 0 50 (dk_at dksX3_passes_1 11 rfl rfl)
theorem dX3_passes_38 : decode cX3_passes 38 = .ok (.getfield 126, 3) := dk_180 0 126 (dk_at dksX3_passes_1 14 rfl rfl)
theorem dX3_passes_41 : decode cX3_passes 41 = .ok (.invokevirtual 171, 3) := dk_182 0 171 (dk_at dksX3_passes_1 17 rfl rfl)
theorem dX3_passes_44 : decode cX3_passes 44 = .ok (.pop, 1) := dk_87 (dk_at dksX3_passes_1 20 rfl rfl)
theorem dX3_passes_45 : decode cX3_passes 45 = .ok (.aload_n 0, 1) := dk_42 (dk_at dksX3_passes_1 21 rfl rfl)
theorem dX3_passes_46 : decode cX3_passes 46 = .ok (.getfield 3, 3) := dk_180 0 3 (dk_at dksX3_passes_2 0 rfl rfl)
theorem dX3_passes_49 : decode cX3_passes 49 = .ok (.getfield 167, 3) := dk_180 0 167 (dk_at dksX3_passes_2 3 rfl rfl)
theorem dX3_passes_52 : decode cX3_passes 52 = .ok (.aload_n 0, 1) := dk_42 (dk_at dksX3_passes_2 6 rfl rfl)
theorem dX3_passes_53 : decode cX3_passes 53 = .ok (.getfield 50, 3) := dk_180 0 50 (dk_at dksX3_passes_2 7 rfl rfl)
theorem dX3_passes_56 : decode cX3_passes 56 = .ok (.getfield 126, 3) := dk_180 0 126 (dk_at dksX3_passes_2 10 rfl rfl)
theorem dX3_passes_59 : decode cX3_passes 59 = .ok (.invokevirtual 177, 3) := dk_182 0 177 (dk_at dksX3_passes_2 13 rfl rfl)
theorem dX3_passes_62 : decode cX3_passes 62 = .ok (.istore_n 3, 1) := dk_62 (dk_at dksX3_passes_2 16 rfl rfl)
theorem dX3_passes_63 : decode cX3_passes 63 = .ok (.aload_n 0, 1) := dk_42 (dk_at dksX3_passes_2 17 rfl rfl)
theorem dX3_passes_64 : decode cX3_passes 64 = .ok (.iload_n 3, 1) := dk_29 (dk_at dksX3_passes_2 18 rfl rfl)
theorem dX3_passes_65 : decode cX3_passes 65 = .ok (.putfield 181, 3) := dk_181 0 181 (dk_at dksX3_passes_2 19 rfl rfl)
theorem dX3_passes_68 : decode cX3_passes 68 = .ok (.aload_n 0, 1) := dk_42 (dk_at dksX3_passes_2 22 rfl rfl)
theorem dX3_passes_69 : decode cX3_passes 69 = .ok (.getfield 3, 3) := dk_180 0 3 (dk_at dksX3_passes_3 0 rfl rfl)
theorem dX3_passes_72 : decode cX3_passes 72 = .ok (.getfield 167, 3) := dk_180 0 167 (dk_at dksX3_passes_3 3 rfl rfl)
theorem dX3_passes_75 : decode cX3_passes 75 = .ok (.aload_n 0, 1) := dk_42 (dk_at dksX3_passes_3 6 rfl rfl)
theorem dX3_passes_76 : decode cX3_passes 76 = .ok (.getfield 50, 3) := dk_180 0 50 (dk_at dksX3_passes_3 7 rfl rfl)
theorem dX3_passes_79 : decode cX3_passes 79 = .ok (.getfield 126, 3) := dk_180 0 126 (dk_at dksX3_passes_3 10 rfl rfl)
theorem dX3_passes_82 : decode cX3_passes 82 = .ok (.invokevirtual 184, 3) := dk_182 0 184 (dk_at dksX3_passes_3 13 rfl rfl)
theorem dX3_passes_85 : decode cX3_passes 85 = .ok (.ifCond .eq 13, 3) := dk_153 0 13 (dk_at dksX3_passes_3 16 rfl rfl)
theorem dX3_passes_88 : decode cX3_passes 88 = .ok (.aload_n 0, 1) := dk_42 (dk_at dksX3_passes_3 19 rfl rfl)
theorem dX3_passes_89 : decode cX3_passes 89 = .ok (.dup, 1) := dk_89 (dk_at dksX3_passes_3 20 rfl rfl)
theorem dX3_passes_90 : decode cX3_passes 90 = .ok (.getfield 161, 3) := dk_180 0 161 (dk_at dksX3_passes_3 21 rfl rfl)
theorem dX3_passes_93 : decode cX3_passes 93 = .ok (.iconst 1, 1) := dk_4 (dk_at dksX3_passes_4 0 rfl rfl)
theorem dX3_passes_94 : decode cX3_passes 94 = .ok (.iadd, 1) := dk_96 (dk_at dksX3_passes_4 1 rfl rfl)
theorem dX3_passes_95 : decode cX3_passes 95 = .ok (.putfield 161, 3) := dk_181 0 161 (dk_at dksX3_passes_4 2 rfl rfl)
theorem dX3_passes_98 : decode cX3_passes 98 = .ok (.iload_n 3, 1) := dk_29 (dk_at dksX3_passes_4 5 rfl rfl)
theorem dX3_passes_99 : decode cX3_passes 99 = .ok (.ifCond .ne 6, 3) := dk_154 0 6 (dk_at dksX3_passes_4 6 rfl rfl)
theorem dX3_passes_102 : decode cX3_passes 102 = .ok (.bipush (-2), 2) := dk_16 254 (dk_at dksX3_passes_4 9 rfl rfl)
theorem dX3_passes_104 : decode cX3_passes 104 = .ok (.ireturn, 1) := dk_172 (dk_at dksX3_passes_4 11 rfl rfl)
theorem dX3_passes_105 : decode cX3_passes 105 = .ok (.aload_n 0, 1) := dk_42 (dk_at dksX3_passes_4 12 rfl rfl)
theorem dX3_passes_106 : decode cX3_passes 106 = .ok (.getfield 3, 3) := dk_180 0 3 (dk_at dksX3_passes_4 13 rfl rfl)
theorem dX3_passes_109 : decode cX3_passes 109 = .ok (.getfield 167, 3) := dk_180 0 167 (dk_at dksX3_passes_4 16 rfl rfl)
theorem dX3_passes_112 : decode cX3_passes 112 = .ok (.aload_n 0, 1) := dk_42 (dk_at dksX3_passes_4 19 rfl rfl)
theorem dX3_passes_113 : decode cX3_passes 113 = .ok (.getfield 50, 3) := dk_180 0 50 (dk_at dksX3_passes_4 20 rfl rfl)
theorem dX3_passes_116 : decode cX3_passes 116 = .ok (.iload_n 3, 1) := dk_29 (dk_at dksX3_passes_4 23 rfl rfl)
theorem dX3_passes_117 : decode cX3_passes 117 = .ok (.new 188, 3) := dk_187 0 188 (dk_at dksX3_passes_5 0 rfl rfl)
theorem dX3_passes_120 : decode cX3_passes 120 = .ok (.dup, 1) := dk_89 (dk_at dksX3_passes_5 3 rfl rfl)
theorem dX3_passes_121 : decode cX3_passes 121 = .ok (.aload_n 0, 1) := dk_42 (dk_at dksX3_passes_5 4 rfl rfl)
theorem dX3_passes_122 : decode cX3_passes 122 = .ok (.invokespecial 190, 3) := dk_183 0 190 (dk_at dksX3_passes_5 5 rfl rfl)
theorem dX3_passes_125 : decode cX3_passes 125 = .ok (.aload_n 0, 1) := dk_42 (dk_at dksX3_passes_5 8 rfl rfl)
theorem dX3_passes_126 : decode cX3_passes 126 = .ok (.getfield 29, 3) := dk_180 0 29 (dk_at dksX3_passes_5 9 rfl rfl)
theorem dX3_passes_129 : decode cX3_passes 129 = .ok (.aload_n 0, 1) := dk_42 (dk_at dksX3_passes_5 12 rfl rfl)
theorem dX3_passes_130 : decode cX3_passes 130 = .ok (.getfield 50, 3) := dk_180 0 50 (dk_at dksX3_passes_5 13 rfl rfl)
theorem dX3_passes_133 : decode cX3_passes 133 = .ok (.getfield 126, 3) := dk_180 0 126 (dk_at dksX3_passes_5 16 rfl rfl)
theorem dX3_passes_136 : decode cX3_passes 136 = .ok (.invokevirtual 171, 3) := dk_182 0 171 (dk_at dksX3_passes_5 19 rfl rfl)
theorem dX3_passes_139 : decode cX3_passes 139 = .ok (.pop, 1) := dk_87 (dk_at dksX3_passes_5 22 rfl rfl)
theorem dX3_passes_140 : decode cX3_passes 140 = .ok (.aload_n 0, 1) := dk_42 (dk_at dksX3_passes_5 23 rfl rfl)
theorem dX3_passes_141 : decode cX3_passes 141 = .ok (.getfield 3, 3) := dk_180 0 3 (dk_at dksX3_passes_6 0 rfl rfl)
theorem dX3_passes_144 : decode cX3_passes 144 = .ok (.getfield 167, 3) := dk_180 0 167 (dk_at dksX3_passes_6 3 rfl rfl)
theorem dX3_passes_147 : decode cX3_passes 147 = .ok (.aload_n 0, 1) := dk_42 (dk_at dksX3_passes_6 6 rfl rfl)
theorem dX3_passes_148 : decode cX3_passes 148 = .ok (.getfield 50, 3) := dk_180 0 50 (dk_at dksX3_passes_6 7 rfl rfl)
theorem dX3_passes_151 : decode cX3_passes 151 = .ok (.getfield 126, 3) := dk_180 0 126 (dk_at dksX3_passes_6 10 rfl rfl)
theorem dX3_passes_154 : decode cX3_passes 154 = .ok (.invokevirtual 177, 3) := dk_182 0 177 (dk_at dksX3_passes_6 13 rfl rfl)
theorem dX3_passes_157 : decode cX3_passes 157 = .ok (.istore 4, 2) := dk_54 4 (dk_at dksX3_passes_6 16 rfl rfl)
theorem dX3_passes_159 : decode cX3_passes 159 = .ok (.aload_n 0, 1) := dk_42 (dk_at dksX3_passes_6 18 rfl rfl)
theorem dX3_passes_160 : decode cX3_passes 160 = .ok (.iload 4, 2) := dk_21 4 (dk_at dksX3_passes_6 19 rfl rfl)
theorem dX3_passes_162 : decode cX3_passes 162 = .ok (.putfield 164, 3) := dk_181 0 164 (dk_at dksX3_passes_6 21 rfl rfl)
theorem dX3_passes_165 : decode cX3_passes 165 = .ok (.aload_n 0, 1) := dk_42 (dk_at dksX3_passes_7 0 rfl rfl)
theorem dX3_passes_166 : decode cX3_passes 166 = .ok (.getfield 3, 3) := dk_180 0 3 (dk_at dksX3_passes_7 1 rfl rfl)
theorem dX3_passes_169 : decode cX3_passes 169 = .ok (.getfield 167, 3) := dk_180 0 167 (dk_at dksX3_passes_7 4 rfl rfl)
theorem dX3_passes_172 : decode cX3_passes 172 = .ok (.aload_n 0, 1) := dk_42 (dk_at dksX3_passes_7 7 rfl rfl)
theorem dX3_passes_173 : decode cX3_passes 173 = .ok (.getfield 50, 3) := dk_180 0 50 (dk_at dksX3_passes_7 8 rfl rfl)
theorem dX3_passes_176 : decode cX3_passes 176 = .ok (.getfield 126, 3) := dk_180 0 126 (dk_at dksX3_passes_7 11 rfl rfl)
theorem dX3_passes_179 : decode cX3_passes 179 = .ok (.invokevirtual 184, 3) := dk_182 0 184 (dk_at dksX3_passes_7 14 rfl rfl)
theorem dX3_passes_182 : decode cX3_passes 182 = .ok (.ifCond .eq 13, 3) := dk_153 0 13 (dk_at dksX3_passes_7 17 rfl rfl)
theorem dX3_passes_185 : decode cX3_passes 185 = .ok (.aload_n 0, 1) := dk_42 (dk_at dksX3_passes_7 20 rfl rfl)
theorem dX3_passes_186 : decode cX3_passes 186 = .ok (.dup, 1) := dk_89 (dk_at dksX3_passes_7 21 rfl rfl)
theorem dX3_passes_187 : decode cX3_passes 187 = .ok (.getfield 161, 3) := dk_180 0 161 (dk_at dksX3_passes_8 0 rfl rfl)
theorem dX3_passes_190 : decode cX3_passes 190 = .ok (.iconst 1, 1) := dk_4 (dk_at dksX3_passes_8 3 rfl rfl)
theorem dX3_passes_191 : decode cX3_passes 191 = .ok (.iadd, 1) := dk_96 (dk_at dksX3_passes_8 4 rfl rfl)
theorem dX3_passes_192 : decode cX3_passes 192 = .ok (.putfield 161, 3) := dk_181 0 161 (dk_at dksX3_passes_8 5 rfl rfl)
theorem dX3_passes_195 : decode cX3_passes 195 = .ok (.iload 4, 2) := dk_21 4 (dk_at dksX3_passes_8 8 rfl rfl)
theorem dX3_passes_197 : decode cX3_passes 197 = .ok (.invokestatic 193, 3) := dk_184 0 193 (dk_at dksX3_passes_8 10 rfl rfl)
theorem dX3_passes_200 : decode cX3_passes 200 = .ok (.iconst 1, 1) := dk_4 (dk_at dksX3_passes_8 13 rfl rfl)
theorem dX3_passes_201 : decode cX3_passes 201 = .ok (.if_icmp .ne 11, 3) := dk_160 0 11 (dk_at dksX3_passes_8 14 rfl rfl)
theorem dX3_passes_204 : decode cX3_passes 204 = .ok (.iload 4, 2) := dk_21 4 (dk_at dksX3_passes_8 17 rfl rfl)
theorem dX3_passes_206 : decode cX3_passes 206 = .ok (.invokestatic 198, 3) := dk_184 0 198 (dk_at dksX3_passes_8 19 rfl rfl)
theorem dX3_passes_209 : decode cX3_passes 209 = .ok (.goto 5, 3) := dk_167 0 5 (dk_at dksX3_passes_9 0 rfl rfl)
theorem dX3_passes_212 : decode cX3_passes 212 = .ok (.bipush (-2), 2) := dk_16 254 (dk_at dksX3_passes_9 3 rfl rfl)
theorem dX3_passes_214 : decode cX3_passes 214 = .ok (.ireturn, 1) := dk_172 (dk_at dksX3_passes_9 5 rfl rfl)
abbrev cX3_is : ByteArray := prog_13_method_21_code
def yX3_is : MethodName := ⟨RX3, "is", "(I)I"⟩
def dkwX3_is_4 : List UInt8 := [180, 0, 85, 172, 42, 180, 0, 88, 172]
abbrev dktX3_is_4 : List UInt8 := dkwX3_is_4 ++ []
def dkwX3_is_3 : List UInt8 := [172, 42, 182, 0, 255, 172, 42, 180, 0, 76, 172, 42, 180, 0, 79, 172, 42, 180, 0, 82, 172, 42]
abbrev dktX3_is_3 : List UInt8 := dkwX3_is_3 ++ dktX3_is_4
def dkwX3_is_2 : List UInt8 := [42, 180, 0, 61, 172, 42, 180, 0, 64, 172, 42, 180, 0, 67, 172, 42, 180, 0, 70, 172, 42, 180, 0, 73]
abbrev dktX3_is_2 : List UInt8 := dkwX3_is_2 ++ dktX3_is_3
def dkwX3_is_1 : List UInt8 := [170, 0, 0, 0, 0, 0, 105, 0, 0, 0, 0, 0, 0, 0, 9, 0, 0, 0, 55, 0, 0, 0, 60, 0, 0, 0, 65, 0, 0, 0, 70, 0, 0, 0, 75, 0, 0, 0, 80, 0, 0, 0, 85, 0, 0, 0, 90, 0, 0, 0, 95, 0, 0, 0, 100]
abbrev dktX3_is_1 : List UInt8 := dkwX3_is_1 ++ dktX3_is_2
def dkwX3_is_0 : List UInt8 := [27]
abbrev dktX3_is_0 : List UInt8 := dkwX3_is_0 ++ dktX3_is_1
theorem dksX3_is_0 : cX3_is.data.toList.drop 0 = dktX3_is_0 := by decide +kernel
theorem dksX3_is_1 : cX3_is.data.toList.drop 1 = dktX3_is_1 := dk_seg dksX3_is_0 1 rfl rfl
theorem dksX3_is_2 : cX3_is.data.toList.drop 56 = dktX3_is_2 := dk_seg dksX3_is_1 55 rfl rfl
theorem dksX3_is_3 : cX3_is.data.toList.drop 80 = dktX3_is_3 := dk_seg dksX3_is_2 24 rfl rfl
theorem dksX3_is_4 : cX3_is.data.toList.drop 102 = dktX3_is_4 := dk_seg dksX3_is_3 22 rfl rfl
theorem dX3_is_0 : decode cX3_is 0 = .ok (.iload_n 1, 1) := dk_27 (dk_at dksX3_is_0 0 rfl rfl)
theorem dX3_is_1 : decode cX3_is 1 = .ok (.tableswitch 105 0 9 #[55, 60, 65, 70, 75, 80, 85, 90, 95, 100], 55) := by decide +kernel
theorem dX3_is_56 : decode cX3_is 56 = .ok (.aload_n 0, 1) := dk_42 (dk_at dksX3_is_2 0 rfl rfl)
theorem dX3_is_57 : decode cX3_is 57 = .ok (.getfield 61, 3) := dk_180 0 61 (dk_at dksX3_is_2 1 rfl rfl)
theorem dX3_is_60 : decode cX3_is 60 = .ok (.ireturn, 1) := dk_172 (dk_at dksX3_is_2 4 rfl rfl)
theorem dX3_is_61 : decode cX3_is 61 = .ok (.aload_n 0, 1) := dk_42 (dk_at dksX3_is_2 5 rfl rfl)
theorem dX3_is_62 : decode cX3_is 62 = .ok (.getfield 64, 3) := dk_180 0 64 (dk_at dksX3_is_2 6 rfl rfl)
theorem dX3_is_65 : decode cX3_is 65 = .ok (.ireturn, 1) := dk_172 (dk_at dksX3_is_2 9 rfl rfl)
theorem dX3_is_66 : decode cX3_is 66 = .ok (.aload_n 0, 1) := dk_42 (dk_at dksX3_is_2 10 rfl rfl)
theorem dX3_is_67 : decode cX3_is 67 = .ok (.getfield 67, 3) := dk_180 0 67 (dk_at dksX3_is_2 11 rfl rfl)
theorem dX3_is_70 : decode cX3_is 70 = .ok (.ireturn, 1) := dk_172 (dk_at dksX3_is_2 14 rfl rfl)
theorem dX3_is_71 : decode cX3_is 71 = .ok (.aload_n 0, 1) := dk_42 (dk_at dksX3_is_2 15 rfl rfl)
theorem dX3_is_72 : decode cX3_is 72 = .ok (.getfield 70, 3) := dk_180 0 70 (dk_at dksX3_is_2 16 rfl rfl)
theorem dX3_is_75 : decode cX3_is 75 = .ok (.ireturn, 1) := dk_172 (dk_at dksX3_is_2 19 rfl rfl)
theorem dX3_is_76 : decode cX3_is 76 = .ok (.aload_n 0, 1) := dk_42 (dk_at dksX3_is_2 20 rfl rfl)
theorem dX3_is_77 : decode cX3_is 77 = .ok (.getfield 73, 3) := dk_180 0 73 (dk_at dksX3_is_2 21 rfl rfl)
theorem dX3_is_80 : decode cX3_is 80 = .ok (.ireturn, 1) := dk_172 (dk_at dksX3_is_3 0 rfl rfl)
theorem dX3_is_81 : decode cX3_is 81 = .ok (.aload_n 0, 1) := dk_42 (dk_at dksX3_is_3 1 rfl rfl)
theorem dX3_is_82 : decode cX3_is 82 = .ok (.invokevirtual 255, 3) := dk_182 0 255 (dk_at dksX3_is_3 2 rfl rfl)
theorem dX3_is_85 : decode cX3_is 85 = .ok (.ireturn, 1) := dk_172 (dk_at dksX3_is_3 5 rfl rfl)
theorem dX3_is_86 : decode cX3_is 86 = .ok (.aload_n 0, 1) := dk_42 (dk_at dksX3_is_3 6 rfl rfl)
theorem dX3_is_87 : decode cX3_is 87 = .ok (.getfield 76, 3) := dk_180 0 76 (dk_at dksX3_is_3 7 rfl rfl)
theorem dX3_is_90 : decode cX3_is 90 = .ok (.ireturn, 1) := dk_172 (dk_at dksX3_is_3 10 rfl rfl)
theorem dX3_is_91 : decode cX3_is 91 = .ok (.aload_n 0, 1) := dk_42 (dk_at dksX3_is_3 11 rfl rfl)
theorem dX3_is_92 : decode cX3_is 92 = .ok (.getfield 79, 3) := dk_180 0 79 (dk_at dksX3_is_3 12 rfl rfl)
theorem dX3_is_95 : decode cX3_is 95 = .ok (.ireturn, 1) := dk_172 (dk_at dksX3_is_3 15 rfl rfl)
theorem dX3_is_96 : decode cX3_is 96 = .ok (.aload_n 0, 1) := dk_42 (dk_at dksX3_is_3 16 rfl rfl)
theorem dX3_is_97 : decode cX3_is 97 = .ok (.getfield 82, 3) := dk_180 0 82 (dk_at dksX3_is_3 17 rfl rfl)
theorem dX3_is_100 : decode cX3_is 100 = .ok (.ireturn, 1) := dk_172 (dk_at dksX3_is_3 20 rfl rfl)
theorem dX3_is_101 : decode cX3_is 101 = .ok (.aload_n 0, 1) := dk_42 (dk_at dksX3_is_3 21 rfl rfl)
theorem dX3_is_102 : decode cX3_is 102 = .ok (.getfield 85, 3) := dk_180 0 85 (dk_at dksX3_is_4 0 rfl rfl)
theorem dX3_is_105 : decode cX3_is 105 = .ok (.ireturn, 1) := dk_172 (dk_at dksX3_is_4 3 rfl rfl)
theorem dX3_is_106 : decode cX3_is 106 = .ok (.aload_n 0, 1) := dk_42 (dk_at dksX3_is_4 4 rfl rfl)
theorem dX3_is_107 : decode cX3_is 107 = .ok (.getfield 88, 3) := dk_180 0 88 (dk_at dksX3_is_4 5 rfl rfl)
theorem dX3_is_110 : decode cX3_is 110 = .ok (.ireturn, 1) := dk_172 (dk_at dksX3_is_4 8 rfl rfl)
abbrev cX3_asking : ByteArray := prog_13_method_6_code
def yX3_asking : MethodName := ⟨RX3, "asking", "()I"⟩
def dkwX3_asking_1 : List UInt8 := [27, 4, 28, 120, 128, 60, 132, 2, 1, 167, 255, 227, 27, 172]
abbrev dktX3_asking_1 : List UInt8 := dkwX3_asking_1 ++ []
def dkwX3_asking_0 : List UInt8 := [3, 60, 3, 61, 28, 42, 180, 0, 50, 182, 0, 111, 162, 0, 24, 42, 180, 0, 19, 28, 46, 158, 0, 9]
abbrev dktX3_asking_0 : List UInt8 := dkwX3_asking_0 ++ dktX3_asking_1
theorem dksX3_asking_0 : cX3_asking.data.toList.drop 0 = dktX3_asking_0 := by decide +kernel
theorem dksX3_asking_1 : cX3_asking.data.toList.drop 24 = dktX3_asking_1 := dk_seg dksX3_asking_0 24 rfl rfl
theorem dX3_asking_0 : decode cX3_asking 0 = .ok (.iconst 0, 1) := dk_3 (dk_at dksX3_asking_0 0 rfl rfl)
theorem dX3_asking_1 : decode cX3_asking 1 = .ok (.istore_n 1, 1) := dk_60 (dk_at dksX3_asking_0 1 rfl rfl)
theorem dX3_asking_2 : decode cX3_asking 2 = .ok (.iconst 0, 1) := dk_3 (dk_at dksX3_asking_0 2 rfl rfl)
theorem dX3_asking_3 : decode cX3_asking 3 = .ok (.istore_n 2, 1) := dk_61 (dk_at dksX3_asking_0 3 rfl rfl)
theorem dX3_asking_4 : decode cX3_asking 4 = .ok (.iload_n 2, 1) := dk_28 (dk_at dksX3_asking_0 4 rfl rfl)
theorem dX3_asking_5 : decode cX3_asking 5 = .ok (.aload_n 0, 1) := dk_42 (dk_at dksX3_asking_0 5 rfl rfl)
theorem dX3_asking_6 : decode cX3_asking 6 = .ok (.getfield 50, 3) := dk_180 0 50 (dk_at dksX3_asking_0 6 rfl rfl)
theorem dX3_asking_9 : decode cX3_asking 9 = .ok (.invokevirtual 111, 3) := dk_182 0 111 (dk_at dksX3_asking_0 9 rfl rfl)
theorem dX3_asking_12 : decode cX3_asking 12 = .ok (.if_icmp .ge 24, 3) := dk_162 0 24 (dk_at dksX3_asking_0 12 rfl rfl)
theorem dX3_asking_15 : decode cX3_asking 15 = .ok (.aload_n 0, 1) := dk_42 (dk_at dksX3_asking_0 15 rfl rfl)
theorem dX3_asking_16 : decode cX3_asking 16 = .ok (.getfield 19, 3) := dk_180 0 19 (dk_at dksX3_asking_0 16 rfl rfl)
theorem dX3_asking_19 : decode cX3_asking 19 = .ok (.iload_n 2, 1) := dk_28 (dk_at dksX3_asking_0 19 rfl rfl)
theorem dX3_asking_20 : decode cX3_asking 20 = .ok (.iaload, 1) := dk_46 (dk_at dksX3_asking_0 20 rfl rfl)
theorem dX3_asking_21 : decode cX3_asking 21 = .ok (.ifCond .le 9, 3) := dk_158 0 9 (dk_at dksX3_asking_0 21 rfl rfl)
theorem dX3_asking_24 : decode cX3_asking 24 = .ok (.iload_n 1, 1) := dk_27 (dk_at dksX3_asking_1 0 rfl rfl)
theorem dX3_asking_25 : decode cX3_asking 25 = .ok (.iconst 1, 1) := dk_4 (dk_at dksX3_asking_1 1 rfl rfl)
theorem dX3_asking_26 : decode cX3_asking 26 = .ok (.iload_n 2, 1) := dk_28 (dk_at dksX3_asking_1 2 rfl rfl)
theorem dX3_asking_27 : decode cX3_asking 27 = .ok (.ishl, 1) := dk_120 (dk_at dksX3_asking_1 3 rfl rfl)
theorem dX3_asking_28 : decode cX3_asking 28 = .ok (.ior, 1) := dk_128 (dk_at dksX3_asking_1 4 rfl rfl)
theorem dX3_asking_29 : decode cX3_asking 29 = .ok (.istore_n 1, 1) := dk_60 (dk_at dksX3_asking_1 5 rfl rfl)
theorem dX3_asking_30 : decode cX3_asking 30 = .ok (.iinc 2 1, 3) := dk_132 2 1 (dk_at dksX3_asking_1 6 rfl rfl)
theorem dX3_asking_33 : decode cX3_asking 33 = .ok (.goto (-29), 3) := dk_167 255 227 (dk_at dksX3_asking_1 9 rfl rfl)
theorem dX3_asking_36 : decode cX3_asking 36 = .ok (.iload_n 1, 1) := dk_27 (dk_at dksX3_asking_1 12 rfl rfl)
theorem dX3_asking_37 : decode cX3_asking 37 = .ok (.ireturn, 1) := dk_172 (dk_at dksX3_asking_1 13 rfl rfl)
abbrev cX3_past : ByteArray := prog_13_method_18_code
def yX3_past : MethodName := ⟨RX3, "past", "(I)I"⟩
def dkwX3_past_1 : List UInt8 := [16, 64, 112, 46, 172]
abbrev dktX3_past_1 : List UInt8 := dkwX3_past_1 ++ []
def dkwX3_past_0 : List UInt8 := [27, 42, 180, 0, 57, 161, 0, 8, 16, 254, 167, 0, 17, 42, 180, 0, 47, 42, 180, 0, 57, 27, 100]
abbrev dktX3_past_0 : List UInt8 := dkwX3_past_0 ++ dktX3_past_1
theorem dksX3_past_0 : cX3_past.data.toList.drop 0 = dktX3_past_0 := by decide +kernel
theorem dksX3_past_1 : cX3_past.data.toList.drop 23 = dktX3_past_1 := dk_seg dksX3_past_0 23 rfl rfl
theorem dX3_past_0 : decode cX3_past 0 = .ok (.iload_n 1, 1) := dk_27 (dk_at dksX3_past_0 0 rfl rfl)
theorem dX3_past_1 : decode cX3_past 1 = .ok (.aload_n 0, 1) := dk_42 (dk_at dksX3_past_0 1 rfl rfl)
theorem dX3_past_2 : decode cX3_past 2 = .ok (.getfield 57, 3) := dk_180 0 57 (dk_at dksX3_past_0 2 rfl rfl)
theorem dX3_past_5 : decode cX3_past 5 = .ok (.if_icmp .lt 8, 3) := dk_161 0 8 (dk_at dksX3_past_0 5 rfl rfl)
theorem dX3_past_8 : decode cX3_past 8 = .ok (.bipush (-2), 2) := dk_16 254 (dk_at dksX3_past_0 8 rfl rfl)
theorem dX3_past_10 : decode cX3_past 10 = .ok (.goto 17, 3) := dk_167 0 17 (dk_at dksX3_past_0 10 rfl rfl)
theorem dX3_past_13 : decode cX3_past 13 = .ok (.aload_n 0, 1) := dk_42 (dk_at dksX3_past_0 13 rfl rfl)
theorem dX3_past_14 : decode cX3_past 14 = .ok (.getfield 47, 3) := dk_180 0 47 (dk_at dksX3_past_0 14 rfl rfl)
theorem dX3_past_17 : decode cX3_past 17 = .ok (.aload_n 0, 1) := dk_42 (dk_at dksX3_past_0 17 rfl rfl)
theorem dX3_past_18 : decode cX3_past 18 = .ok (.getfield 57, 3) := dk_180 0 57 (dk_at dksX3_past_0 18 rfl rfl)
theorem dX3_past_21 : decode cX3_past 21 = .ok (.iload_n 1, 1) := dk_27 (dk_at dksX3_past_0 21 rfl rfl)
theorem dX3_past_22 : decode cX3_past 22 = .ok (.isub, 1) := dk_100 (dk_at dksX3_past_0 22 rfl rfl)
theorem dX3_past_23 : decode cX3_past 23 = .ok (.bipush 64, 2) := dk_16 64 (dk_at dksX3_past_1 0 rfl rfl)
theorem dX3_past_25 : decode cX3_past 25 = .ok (.irem, 1) := dk_112 (dk_at dksX3_past_1 2 rfl rfl)
theorem dX3_past_26 : decode cX3_past 26 = .ok (.iaload, 1) := dk_46 (dk_at dksX3_past_1 3 rfl rfl)
theorem dX3_past_27 : decode cX3_past 27 = .ok (.ireturn, 1) := dk_172 (dk_at dksX3_past_1 4 rfl rfl)
abbrev cX3_idle : ByteArray := prog_13_method_19_code
def yX3_idle : MethodName := ⟨RX3, "idle", "()I"⟩
def dkwX3_idle_1 : List UInt8 := [160, 0, 6, 132, 1, 1, 132, 2, 1, 167, 255, 227, 27, 172]
abbrev dktX3_idle_1 : List UInt8 := dkwX3_idle_1 ++ []
def dkwX3_idle_0 : List UInt8 := [3, 60, 3, 61, 28, 16, 64, 42, 180, 0, 57, 184, 1, 5, 162, 0, 22, 42, 28, 182, 1, 8, 16, 254]
abbrev dktX3_idle_0 : List UInt8 := dkwX3_idle_0 ++ dktX3_idle_1
theorem dksX3_idle_0 : cX3_idle.data.toList.drop 0 = dktX3_idle_0 := by decide +kernel
theorem dksX3_idle_1 : cX3_idle.data.toList.drop 24 = dktX3_idle_1 := dk_seg dksX3_idle_0 24 rfl rfl
theorem dX3_idle_0 : decode cX3_idle 0 = .ok (.iconst 0, 1) := dk_3 (dk_at dksX3_idle_0 0 rfl rfl)
theorem dX3_idle_1 : decode cX3_idle 1 = .ok (.istore_n 1, 1) := dk_60 (dk_at dksX3_idle_0 1 rfl rfl)
theorem dX3_idle_2 : decode cX3_idle 2 = .ok (.iconst 0, 1) := dk_3 (dk_at dksX3_idle_0 2 rfl rfl)
theorem dX3_idle_3 : decode cX3_idle 3 = .ok (.istore_n 2, 1) := dk_61 (dk_at dksX3_idle_0 3 rfl rfl)
theorem dX3_idle_4 : decode cX3_idle 4 = .ok (.iload_n 2, 1) := dk_28 (dk_at dksX3_idle_0 4 rfl rfl)
theorem dX3_idle_5 : decode cX3_idle 5 = .ok (.bipush 64, 2) := dk_16 64 (dk_at dksX3_idle_0 5 rfl rfl)
theorem dX3_idle_7 : decode cX3_idle 7 = .ok (.aload_n 0, 1) := dk_42 (dk_at dksX3_idle_0 7 rfl rfl)
theorem dX3_idle_8 : decode cX3_idle 8 = .ok (.getfield 57, 3) := dk_180 0 57 (dk_at dksX3_idle_0 8 rfl rfl)
theorem dX3_idle_11 : decode cX3_idle 11 = .ok (.invokestatic 261, 3) := dk_184 1 5 (dk_at dksX3_idle_0 11 rfl rfl)
theorem dX3_idle_14 : decode cX3_idle 14 = .ok (.if_icmp .ge 22, 3) := dk_162 0 22 (dk_at dksX3_idle_0 14 rfl rfl)
theorem dX3_idle_17 : decode cX3_idle 17 = .ok (.aload_n 0, 1) := dk_42 (dk_at dksX3_idle_0 17 rfl rfl)
theorem dX3_idle_18 : decode cX3_idle 18 = .ok (.iload_n 2, 1) := dk_28 (dk_at dksX3_idle_0 18 rfl rfl)
theorem dX3_idle_19 : decode cX3_idle 19 = .ok (.invokevirtual 264, 3) := dk_182 1 8 (dk_at dksX3_idle_0 19 rfl rfl)
theorem dX3_idle_22 : decode cX3_idle 22 = .ok (.bipush (-2), 2) := dk_16 254 (dk_at dksX3_idle_0 22 rfl rfl)
theorem dX3_idle_24 : decode cX3_idle 24 = .ok (.if_icmp .ne 6, 3) := dk_160 0 6 (dk_at dksX3_idle_1 0 rfl rfl)
theorem dX3_idle_27 : decode cX3_idle 27 = .ok (.iinc 1 1, 3) := dk_132 1 1 (dk_at dksX3_idle_1 3 rfl rfl)
theorem dX3_idle_30 : decode cX3_idle 30 = .ok (.iinc 2 1, 3) := dk_132 2 1 (dk_at dksX3_idle_1 6 rfl rfl)
theorem dX3_idle_33 : decode cX3_idle 33 = .ok (.goto (-29), 3) := dk_167 255 227 (dk_at dksX3_idle_1 9 rfl rfl)
theorem dX3_idle_36 : decode cX3_idle 36 = .ok (.iload_n 1, 1) := dk_27 (dk_at dksX3_idle_1 12 rfl rfl)
theorem dX3_idle_37 : decode cX3_idle 37 = .ok (.ireturn, 1) := dk_172 (dk_at dksX3_idle_1 13 rfl rfl)
abbrev cX3_waiting : ByteArray := prog_13_method_12_code
def yX3_waiting : MethodName := ⟨RX3, "waiting", "(I)I"⟩
def dkwX3_waiting_1 : List UInt8 := [28, 4, 29, 120, 128, 61, 132, 3, 1, 167, 255, 227, 28, 172]
abbrev dktX3_waiting_1 : List UInt8 := dkwX3_waiting_1 ++ []
def dkwX3_waiting_0 : List UInt8 := [3, 61, 3, 62, 29, 42, 180, 0, 50, 182, 0, 111, 162, 0, 24, 42, 29, 27, 182, 0, 207, 153, 0, 9]
abbrev dktX3_waiting_0 : List UInt8 := dkwX3_waiting_0 ++ dktX3_waiting_1
theorem dksX3_waiting_0 : cX3_waiting.data.toList.drop 0 = dktX3_waiting_0 := by decide +kernel
theorem dksX3_waiting_1 : cX3_waiting.data.toList.drop 24 = dktX3_waiting_1 := dk_seg dksX3_waiting_0 24 rfl rfl
theorem dX3_waiting_0 : decode cX3_waiting 0 = .ok (.iconst 0, 1) := dk_3 (dk_at dksX3_waiting_0 0 rfl rfl)
theorem dX3_waiting_1 : decode cX3_waiting 1 = .ok (.istore_n 2, 1) := dk_61 (dk_at dksX3_waiting_0 1 rfl rfl)
theorem dX3_waiting_2 : decode cX3_waiting 2 = .ok (.iconst 0, 1) := dk_3 (dk_at dksX3_waiting_0 2 rfl rfl)
theorem dX3_waiting_3 : decode cX3_waiting 3 = .ok (.istore_n 3, 1) := dk_62 (dk_at dksX3_waiting_0 3 rfl rfl)
theorem dX3_waiting_4 : decode cX3_waiting 4 = .ok (.iload_n 3, 1) := dk_29 (dk_at dksX3_waiting_0 4 rfl rfl)
theorem dX3_waiting_5 : decode cX3_waiting 5 = .ok (.aload_n 0, 1) := dk_42 (dk_at dksX3_waiting_0 5 rfl rfl)
theorem dX3_waiting_6 : decode cX3_waiting 6 = .ok (.getfield 50, 3) := dk_180 0 50 (dk_at dksX3_waiting_0 6 rfl rfl)
theorem dX3_waiting_9 : decode cX3_waiting 9 = .ok (.invokevirtual 111, 3) := dk_182 0 111 (dk_at dksX3_waiting_0 9 rfl rfl)
theorem dX3_waiting_12 : decode cX3_waiting 12 = .ok (.if_icmp .ge 24, 3) := dk_162 0 24 (dk_at dksX3_waiting_0 12 rfl rfl)
theorem dX3_waiting_15 : decode cX3_waiting 15 = .ok (.aload_n 0, 1) := dk_42 (dk_at dksX3_waiting_0 15 rfl rfl)
theorem dX3_waiting_16 : decode cX3_waiting 16 = .ok (.iload_n 3, 1) := dk_29 (dk_at dksX3_waiting_0 16 rfl rfl)
theorem dX3_waiting_17 : decode cX3_waiting 17 = .ok (.iload_n 1, 1) := dk_27 (dk_at dksX3_waiting_0 17 rfl rfl)
theorem dX3_waiting_18 : decode cX3_waiting 18 = .ok (.invokevirtual 207, 3) := dk_182 0 207 (dk_at dksX3_waiting_0 18 rfl rfl)
theorem dX3_waiting_21 : decode cX3_waiting 21 = .ok (.ifCond .eq 9, 3) := dk_153 0 9 (dk_at dksX3_waiting_0 21 rfl rfl)
theorem dX3_waiting_24 : decode cX3_waiting 24 = .ok (.iload_n 2, 1) := dk_28 (dk_at dksX3_waiting_1 0 rfl rfl)
theorem dX3_waiting_25 : decode cX3_waiting 25 = .ok (.iconst 1, 1) := dk_4 (dk_at dksX3_waiting_1 1 rfl rfl)
theorem dX3_waiting_26 : decode cX3_waiting 26 = .ok (.iload_n 3, 1) := dk_29 (dk_at dksX3_waiting_1 2 rfl rfl)
theorem dX3_waiting_27 : decode cX3_waiting 27 = .ok (.ishl, 1) := dk_120 (dk_at dksX3_waiting_1 3 rfl rfl)
theorem dX3_waiting_28 : decode cX3_waiting 28 = .ok (.ior, 1) := dk_128 (dk_at dksX3_waiting_1 4 rfl rfl)
theorem dX3_waiting_29 : decode cX3_waiting 29 = .ok (.istore_n 2, 1) := dk_61 (dk_at dksX3_waiting_1 5 rfl rfl)
theorem dX3_waiting_30 : decode cX3_waiting 30 = .ok (.iinc 3 1, 3) := dk_132 3 1 (dk_at dksX3_waiting_1 6 rfl rfl)
theorem dX3_waiting_33 : decode cX3_waiting 33 = .ok (.goto (-29), 3) := dk_167 255 227 (dk_at dksX3_waiting_1 9 rfl rfl)
theorem dX3_waiting_36 : decode cX3_waiting 36 = .ok (.iload_n 2, 1) := dk_28 (dk_at dksX3_waiting_1 12 rfl rfl)
theorem dX3_waiting_37 : decode cX3_waiting 37 = .ok (.ireturn, 1) := dk_172 (dk_at dksX3_waiting_1 13 rfl rfl)
abbrev cX3_longest : ByteArray := prog_13_method_13_code
def yX3_longest : MethodName := ⟨RX3, "longest", "()I"⟩
def dkwX3_longest_4 : List UInt8 := [162, 0, 5, 28, 60, 132, 2, 1, 167, 255, 161, 27, 172]
abbrev dktX3_longest_4 : List UInt8 := dkwX3_longest_4 ++ []
def dkwX3_longest_3 : List UInt8 := [42, 180, 0, 50, 28, 182, 0, 211, 180, 0, 215, 42, 180, 0, 50, 27, 182, 0, 211, 180, 0, 215]
abbrev dktX3_longest_3 : List UInt8 := dkwX3_longest_3 ++ dktX3_longest_4
def dkwX3_longest_2 : List UInt8 := [167, 0, 51, 27, 16, 254, 159, 0, 43, 42, 180, 0, 23, 28, 46, 42, 180, 0, 23, 27, 46, 161, 0, 28]
abbrev dktX3_longest_2 : List UInt8 := dkwX3_longest_2 ++ dktX3_longest_3
def dkwX3_longest_1 : List UInt8 := [153, 0, 75, 27, 16, 254, 159, 0, 21, 42, 180, 0, 23, 28, 46, 42, 180, 0, 23, 27, 46, 164, 0, 6]
abbrev dktX3_longest_1 : List UInt8 := dkwX3_longest_1 ++ dktX3_longest_2
def dkwX3_longest_0 : List UInt8 := [16, 254, 60, 3, 61, 28, 42, 180, 0, 50, 182, 0, 111, 162, 0, 90, 42, 180, 0, 19, 28, 46]
abbrev dktX3_longest_0 : List UInt8 := dkwX3_longest_0 ++ dktX3_longest_1
theorem dksX3_longest_0 : cX3_longest.data.toList.drop 0 = dktX3_longest_0 := by decide +kernel
theorem dksX3_longest_1 : cX3_longest.data.toList.drop 22 = dktX3_longest_1 := dk_seg dksX3_longest_0 22 rfl rfl
theorem dksX3_longest_2 : cX3_longest.data.toList.drop 46 = dktX3_longest_2 := dk_seg dksX3_longest_1 24 rfl rfl
theorem dksX3_longest_3 : cX3_longest.data.toList.drop 70 = dktX3_longest_3 := dk_seg dksX3_longest_2 24 rfl rfl
theorem dksX3_longest_4 : cX3_longest.data.toList.drop 92 = dktX3_longest_4 := dk_seg dksX3_longest_3 22 rfl rfl
theorem dX3_longest_0 : decode cX3_longest 0 = .ok (.bipush (-2), 2) := dk_16 254 (dk_at dksX3_longest_0 0 rfl rfl)
theorem dX3_longest_2 : decode cX3_longest 2 = .ok (.istore_n 1, 1) := dk_60 (dk_at dksX3_longest_0 2 rfl rfl)
theorem dX3_longest_3 : decode cX3_longest 3 = .ok (.iconst 0, 1) := dk_3 (dk_at dksX3_longest_0 3 rfl rfl)
theorem dX3_longest_4 : decode cX3_longest 4 = .ok (.istore_n 2, 1) := dk_61 (dk_at dksX3_longest_0 4 rfl rfl)
theorem dX3_longest_5 : decode cX3_longest 5 = .ok (.iload_n 2, 1) := dk_28 (dk_at dksX3_longest_0 5 rfl rfl)
theorem dX3_longest_6 : decode cX3_longest 6 = .ok (.aload_n 0, 1) := dk_42 (dk_at dksX3_longest_0 6 rfl rfl)
theorem dX3_longest_7 : decode cX3_longest 7 = .ok (.getfield 50, 3) := dk_180 0 50 (dk_at dksX3_longest_0 7 rfl rfl)
theorem dX3_longest_10 : decode cX3_longest 10 = .ok (.invokevirtual 111, 3) := dk_182 0 111 (dk_at dksX3_longest_0 10 rfl rfl)
theorem dX3_longest_13 : decode cX3_longest 13 = .ok (.if_icmp .ge 90, 3) := dk_162 0 90 (dk_at dksX3_longest_0 13 rfl rfl)
theorem dX3_longest_16 : decode cX3_longest 16 = .ok (.aload_n 0, 1) := dk_42 (dk_at dksX3_longest_0 16 rfl rfl)
theorem dX3_longest_17 : decode cX3_longest 17 = .ok (.getfield 19, 3) := dk_180 0 19 (dk_at dksX3_longest_0 17 rfl rfl)
theorem dX3_longest_20 : decode cX3_longest 20 = .ok (.iload_n 2, 1) := dk_28 (dk_at dksX3_longest_0 20 rfl rfl)
theorem dX3_longest_21 : decode cX3_longest 21 = .ok (.iaload, 1) := dk_46 (dk_at dksX3_longest_0 21 rfl rfl)
theorem dX3_longest_22 : decode cX3_longest 22 = .ok (.ifCond .eq 75, 3) := dk_153 0 75 (dk_at dksX3_longest_1 0 rfl rfl)
theorem dX3_longest_25 : decode cX3_longest 25 = .ok (.iload_n 1, 1) := dk_27 (dk_at dksX3_longest_1 3 rfl rfl)
theorem dX3_longest_26 : decode cX3_longest 26 = .ok (.bipush (-2), 2) := dk_16 254 (dk_at dksX3_longest_1 4 rfl rfl)
theorem dX3_longest_28 : decode cX3_longest 28 = .ok (.if_icmp .eq 21, 3) := dk_159 0 21 (dk_at dksX3_longest_1 6 rfl rfl)
theorem dX3_longest_31 : decode cX3_longest 31 = .ok (.aload_n 0, 1) := dk_42 (dk_at dksX3_longest_1 9 rfl rfl)
theorem dX3_longest_32 : decode cX3_longest 32 = .ok (.getfield 23, 3) := dk_180 0 23 (dk_at dksX3_longest_1 10 rfl rfl)
theorem dX3_longest_35 : decode cX3_longest 35 = .ok (.iload_n 2, 1) := dk_28 (dk_at dksX3_longest_1 13 rfl rfl)
theorem dX3_longest_36 : decode cX3_longest 36 = .ok (.iaload, 1) := dk_46 (dk_at dksX3_longest_1 14 rfl rfl)
theorem dX3_longest_37 : decode cX3_longest 37 = .ok (.aload_n 0, 1) := dk_42 (dk_at dksX3_longest_1 15 rfl rfl)
theorem dX3_longest_38 : decode cX3_longest 38 = .ok (.getfield 23, 3) := dk_180 0 23 (dk_at dksX3_longest_1 16 rfl rfl)
theorem dX3_longest_41 : decode cX3_longest 41 = .ok (.iload_n 1, 1) := dk_27 (dk_at dksX3_longest_1 19 rfl rfl)
theorem dX3_longest_42 : decode cX3_longest 42 = .ok (.iaload, 1) := dk_46 (dk_at dksX3_longest_1 20 rfl rfl)
theorem dX3_longest_43 : decode cX3_longest 43 = .ok (.if_icmp .le 6, 3) := dk_164 0 6 (dk_at dksX3_longest_1 21 rfl rfl)
theorem dX3_longest_46 : decode cX3_longest 46 = .ok (.goto 51, 3) := dk_167 0 51 (dk_at dksX3_longest_2 0 rfl rfl)
theorem dX3_longest_49 : decode cX3_longest 49 = .ok (.iload_n 1, 1) := dk_27 (dk_at dksX3_longest_2 3 rfl rfl)
theorem dX3_longest_50 : decode cX3_longest 50 = .ok (.bipush (-2), 2) := dk_16 254 (dk_at dksX3_longest_2 4 rfl rfl)
theorem dX3_longest_52 : decode cX3_longest 52 = .ok (.if_icmp .eq 43, 3) := dk_159 0 43 (dk_at dksX3_longest_2 6 rfl rfl)
theorem dX3_longest_55 : decode cX3_longest 55 = .ok (.aload_n 0, 1) := dk_42 (dk_at dksX3_longest_2 9 rfl rfl)
theorem dX3_longest_56 : decode cX3_longest 56 = .ok (.getfield 23, 3) := dk_180 0 23 (dk_at dksX3_longest_2 10 rfl rfl)
theorem dX3_longest_59 : decode cX3_longest 59 = .ok (.iload_n 2, 1) := dk_28 (dk_at dksX3_longest_2 13 rfl rfl)
theorem dX3_longest_60 : decode cX3_longest 60 = .ok (.iaload, 1) := dk_46 (dk_at dksX3_longest_2 14 rfl rfl)
theorem dX3_longest_61 : decode cX3_longest 61 = .ok (.aload_n 0, 1) := dk_42 (dk_at dksX3_longest_2 15 rfl rfl)
theorem dX3_longest_62 : decode cX3_longest 62 = .ok (.getfield 23, 3) := dk_180 0 23 (dk_at dksX3_longest_2 16 rfl rfl)
theorem dX3_longest_65 : decode cX3_longest 65 = .ok (.iload_n 1, 1) := dk_27 (dk_at dksX3_longest_2 19 rfl rfl)
theorem dX3_longest_66 : decode cX3_longest 66 = .ok (.iaload, 1) := dk_46 (dk_at dksX3_longest_2 20 rfl rfl)
theorem dX3_longest_67 : decode cX3_longest 67 = .ok (.if_icmp .lt 28, 3) := dk_161 0 28 (dk_at dksX3_longest_2 21 rfl rfl)
theorem dX3_longest_70 : decode cX3_longest 70 = .ok (.aload_n 0, 1) := dk_42 (dk_at dksX3_longest_3 0 rfl rfl)
theorem dX3_longest_71 : decode cX3_longest 71 = .ok (.getfield 50, 3) := dk_180 0 50 (dk_at dksX3_longest_3 1 rfl rfl)
theorem dX3_longest_74 : decode cX3_longest 74 = .ok (.iload_n 2, 1) := dk_28 (dk_at dksX3_longest_3 4 rfl rfl)
theorem dX3_longest_75 : decode cX3_longest 75 = .ok (.invokevirtual 211, 3) := dk_182 0 211 (dk_at dksX3_longest_3 5 rfl rfl)
theorem dX3_longest_78 : decode cX3_longest 78 = .ok (.getfield 215, 3) := dk_180 0 215 (dk_at dksX3_longest_3 8 rfl rfl)
theorem dX3_longest_81 : decode cX3_longest 81 = .ok (.aload_n 0, 1) := dk_42 (dk_at dksX3_longest_3 11 rfl rfl)
theorem dX3_longest_82 : decode cX3_longest 82 = .ok (.getfield 50, 3) := dk_180 0 50 (dk_at dksX3_longest_3 12 rfl rfl)
theorem dX3_longest_85 : decode cX3_longest 85 = .ok (.iload_n 1, 1) := dk_27 (dk_at dksX3_longest_3 15 rfl rfl)
theorem dX3_longest_86 : decode cX3_longest 86 = .ok (.invokevirtual 211, 3) := dk_182 0 211 (dk_at dksX3_longest_3 16 rfl rfl)
theorem dX3_longest_89 : decode cX3_longest 89 = .ok (.getfield 215, 3) := dk_180 0 215 (dk_at dksX3_longest_3 19 rfl rfl)
theorem dX3_longest_92 : decode cX3_longest 92 = .ok (.if_icmp .ge 5, 3) := dk_162 0 5 (dk_at dksX3_longest_4 0 rfl rfl)
theorem dX3_longest_95 : decode cX3_longest 95 = .ok (.iload_n 2, 1) := dk_28 (dk_at dksX3_longest_4 3 rfl rfl)
theorem dX3_longest_96 : decode cX3_longest 96 = .ok (.istore_n 1, 1) := dk_60 (dk_at dksX3_longest_4 4 rfl rfl)
theorem dX3_longest_97 : decode cX3_longest 97 = .ok (.iinc 2 1, 3) := dk_132 2 1 (dk_at dksX3_longest_4 5 rfl rfl)
theorem dX3_longest_100 : decode cX3_longest 100 = .ok (.goto (-95), 3) := dk_167 255 161 (dk_at dksX3_longest_4 8 rfl rfl)
theorem dX3_longest_103 : decode cX3_longest 103 = .ok (.iload_n 1, 1) := dk_27 (dk_at dksX3_longest_4 11 rfl rfl)
theorem dX3_longest_104 : decode cX3_longest 104 = .ok (.ireturn, 1) := dk_172 (dk_at dksX3_longest_4 12 rfl rfl)
abbrev cX3_be : ByteArray := prog_13_method_3_code
def yX3_be : MethodName := ⟨RX3, "be", "(LOpenLines$Run;)V"⟩
def dkwX3_be_11 : List UInt8 := [181, 0, 88, 177]
abbrev dktX3_be_11 : List UInt8 := dkwX3_be_11 ++ []
def dkwX3_be_10 : List UInt8 := [181, 0, 79, 42, 43, 180, 0, 82, 181, 0, 82, 42, 43, 180, 0, 85, 181, 0, 85, 42, 43, 180, 0, 88]
abbrev dktX3_be_10 : List UInt8 := dkwX3_be_10 ++ dktX3_be_11
def dkwX3_be_9 : List UInt8 := [181, 0, 70, 42, 43, 180, 0, 73, 181, 0, 73, 42, 43, 180, 0, 76, 181, 0, 76, 42, 43, 180, 0, 79]
abbrev dktX3_be_9 : List UInt8 := dkwX3_be_9 ++ dktX3_be_10
def dkwX3_be_8 : List UInt8 := [181, 0, 61, 42, 43, 180, 0, 64, 181, 0, 64, 42, 43, 180, 0, 67, 181, 0, 67, 42, 43, 180, 0, 70]
abbrev dktX3_be_8 : List UInt8 := dkwX3_be_8 ++ dktX3_be_9
def dkwX3_be_7 : List UInt8 := [180, 0, 47, 3, 16, 64, 184, 0, 91, 42, 43, 180, 0, 57, 181, 0, 57, 42, 43, 180, 0, 61]
abbrev dktX3_be_7 : List UInt8 := dkwX3_be_7 ++ dktX3_be_8
def dkwX3_be_6 : List UInt8 := [28, 182, 0, 101, 192, 0, 105, 182, 0, 107, 87, 132, 2, 1, 167, 255, 223, 43, 180, 0, 47, 3, 42]
abbrev dktX3_be_6 : List UInt8 := dkwX3_be_6 ++ dktX3_be_7
def dkwX3_be_5 : List UInt8 := [182, 0, 54, 3, 61, 28, 43, 180, 0, 43, 182, 0, 97, 162, 0, 28, 42, 180, 0, 43, 43, 180, 0, 43]
abbrev dktX3_be_5 : List UInt8 := dkwX3_be_5 ++ dktX3_be_6
def dkwX3_be_4 : List UInt8 := [184, 0, 91, 43, 180, 0, 35, 3, 42, 180, 0, 35, 3, 16, 36, 184, 0, 91, 42, 180, 0, 43]
abbrev dktX3_be_4 : List UInt8 := dkwX3_be_4 ++ dktX3_be_5
def dkwX3_be_3 : List UInt8 := [3, 42, 180, 0, 29, 3, 16, 6, 184, 0, 91, 43, 180, 0, 32, 3, 42, 180, 0, 32, 3, 16, 6]
abbrev dktX3_be_3 : List UInt8 := dkwX3_be_3 ++ dktX3_be_4
def dkwX3_be_2 : List UInt8 := [16, 6, 184, 0, 91, 43, 180, 0, 26, 3, 42, 180, 0, 26, 3, 16, 6, 184, 0, 91, 43, 180, 0, 29]
abbrev dktX3_be_2 : List UInt8 := dkwX3_be_2 ++ dktX3_be_3
def dkwX3_be_1 : List UInt8 := [180, 0, 19, 3, 42, 180, 0, 19, 3, 16, 6, 184, 0, 91, 43, 180, 0, 23, 3, 42, 180, 0, 23, 3]
abbrev dktX3_be_1 : List UInt8 := dkwX3_be_1 ++ dktX3_be_2
def dkwX3_be_0 : List UInt8 := [42, 43, 180, 0, 50, 181, 0, 50, 43, 180, 0, 15, 3, 42, 180, 0, 15, 3, 16, 6, 184, 0, 91, 43]
abbrev dktX3_be_0 : List UInt8 := dkwX3_be_0 ++ dktX3_be_1
theorem dksX3_be_0 : cX3_be.data.toList.drop 0 = dktX3_be_0 := by decide +kernel
theorem dksX3_be_1 : cX3_be.data.toList.drop 24 = dktX3_be_1 := dk_seg dksX3_be_0 24 rfl rfl
theorem dksX3_be_2 : cX3_be.data.toList.drop 48 = dktX3_be_2 := dk_seg dksX3_be_1 24 rfl rfl
theorem dksX3_be_3 : cX3_be.data.toList.drop 72 = dktX3_be_3 := dk_seg dksX3_be_2 24 rfl rfl
theorem dksX3_be_4 : cX3_be.data.toList.drop 95 = dktX3_be_4 := dk_seg dksX3_be_3 23 rfl rfl
theorem dksX3_be_5 : cX3_be.data.toList.drop 117 = dktX3_be_5 := dk_seg dksX3_be_4 22 rfl rfl
theorem dksX3_be_6 : cX3_be.data.toList.drop 141 = dktX3_be_6 := dk_seg dksX3_be_5 24 rfl rfl
theorem dksX3_be_7 : cX3_be.data.toList.drop 164 = dktX3_be_7 := dk_seg dksX3_be_6 23 rfl rfl
theorem dksX3_be_8 : cX3_be.data.toList.drop 186 = dktX3_be_8 := dk_seg dksX3_be_7 22 rfl rfl
theorem dksX3_be_9 : cX3_be.data.toList.drop 210 = dktX3_be_9 := dk_seg dksX3_be_8 24 rfl rfl
theorem dksX3_be_10 : cX3_be.data.toList.drop 234 = dktX3_be_10 := dk_seg dksX3_be_9 24 rfl rfl
theorem dksX3_be_11 : cX3_be.data.toList.drop 258 = dktX3_be_11 := dk_seg dksX3_be_10 24 rfl rfl
theorem dX3_be_0 : decode cX3_be 0 = .ok (.aload_n 0, 1) := dk_42 (dk_at dksX3_be_0 0 rfl rfl)
theorem dX3_be_1 : decode cX3_be 1 = .ok (.aload_n 1, 1) := dk_43 (dk_at dksX3_be_0 1 rfl rfl)
theorem dX3_be_2 : decode cX3_be 2 = .ok (.getfield 50, 3) := dk_180 0 50 (dk_at dksX3_be_0 2 rfl rfl)
theorem dX3_be_5 : decode cX3_be 5 = .ok (.putfield 50, 3) := dk_181 0 50 (dk_at dksX3_be_0 5 rfl rfl)
theorem dX3_be_8 : decode cX3_be 8 = .ok (.aload_n 1, 1) := dk_43 (dk_at dksX3_be_0 8 rfl rfl)
theorem dX3_be_9 : decode cX3_be 9 = .ok (.getfield 15, 3) := dk_180 0 15 (dk_at dksX3_be_0 9 rfl rfl)
theorem dX3_be_12 : decode cX3_be 12 = .ok (.iconst 0, 1) := dk_3 (dk_at dksX3_be_0 12 rfl rfl)
theorem dX3_be_13 : decode cX3_be 13 = .ok (.aload_n 0, 1) := dk_42 (dk_at dksX3_be_0 13 rfl rfl)
theorem dX3_be_14 : decode cX3_be 14 = .ok (.getfield 15, 3) := dk_180 0 15 (dk_at dksX3_be_0 14 rfl rfl)
theorem dX3_be_17 : decode cX3_be 17 = .ok (.iconst 0, 1) := dk_3 (dk_at dksX3_be_0 17 rfl rfl)
theorem dX3_be_18 : decode cX3_be 18 = .ok (.bipush 6, 2) := dk_16 6 (dk_at dksX3_be_0 18 rfl rfl)
theorem dX3_be_20 : decode cX3_be 20 = .ok (.invokestatic 91, 3) := dk_184 0 91 (dk_at dksX3_be_0 20 rfl rfl)
theorem dX3_be_23 : decode cX3_be 23 = .ok (.aload_n 1, 1) := dk_43 (dk_at dksX3_be_0 23 rfl rfl)
theorem dX3_be_24 : decode cX3_be 24 = .ok (.getfield 19, 3) := dk_180 0 19 (dk_at dksX3_be_1 0 rfl rfl)
theorem dX3_be_27 : decode cX3_be 27 = .ok (.iconst 0, 1) := dk_3 (dk_at dksX3_be_1 3 rfl rfl)
theorem dX3_be_28 : decode cX3_be 28 = .ok (.aload_n 0, 1) := dk_42 (dk_at dksX3_be_1 4 rfl rfl)
theorem dX3_be_29 : decode cX3_be 29 = .ok (.getfield 19, 3) := dk_180 0 19 (dk_at dksX3_be_1 5 rfl rfl)
theorem dX3_be_32 : decode cX3_be 32 = .ok (.iconst 0, 1) := dk_3 (dk_at dksX3_be_1 8 rfl rfl)
theorem dX3_be_33 : decode cX3_be 33 = .ok (.bipush 6, 2) := dk_16 6 (dk_at dksX3_be_1 9 rfl rfl)
theorem dX3_be_35 : decode cX3_be 35 = .ok (.invokestatic 91, 3) := dk_184 0 91 (dk_at dksX3_be_1 11 rfl rfl)
theorem dX3_be_38 : decode cX3_be 38 = .ok (.aload_n 1, 1) := dk_43 (dk_at dksX3_be_1 14 rfl rfl)
theorem dX3_be_39 : decode cX3_be 39 = .ok (.getfield 23, 3) := dk_180 0 23 (dk_at dksX3_be_1 15 rfl rfl)
theorem dX3_be_42 : decode cX3_be 42 = .ok (.iconst 0, 1) := dk_3 (dk_at dksX3_be_1 18 rfl rfl)
theorem dX3_be_43 : decode cX3_be 43 = .ok (.aload_n 0, 1) := dk_42 (dk_at dksX3_be_1 19 rfl rfl)
theorem dX3_be_44 : decode cX3_be 44 = .ok (.getfield 23, 3) := dk_180 0 23 (dk_at dksX3_be_1 20 rfl rfl)
theorem dX3_be_47 : decode cX3_be 47 = .ok (.iconst 0, 1) := dk_3 (dk_at dksX3_be_1 23 rfl rfl)
theorem dX3_be_48 : decode cX3_be 48 = .ok (.bipush 6, 2) := dk_16 6 (dk_at dksX3_be_2 0 rfl rfl)
theorem dX3_be_50 : decode cX3_be 50 = .ok (.invokestatic 91, 3) := dk_184 0 91 (dk_at dksX3_be_2 2 rfl rfl)
theorem dX3_be_53 : decode cX3_be 53 = .ok (.aload_n 1, 1) := dk_43 (dk_at dksX3_be_2 5 rfl rfl)
theorem dX3_be_54 : decode cX3_be 54 = .ok (.getfield 26, 3) := dk_180 0 26 (dk_at dksX3_be_2 6 rfl rfl)
theorem dX3_be_57 : decode cX3_be 57 = .ok (.iconst 0, 1) := dk_3 (dk_at dksX3_be_2 9 rfl rfl)
theorem dX3_be_58 : decode cX3_be 58 = .ok (.aload_n 0, 1) := dk_42 (dk_at dksX3_be_2 10 rfl rfl)
theorem dX3_be_59 : decode cX3_be 59 = .ok (.getfield 26, 3) := dk_180 0 26 (dk_at dksX3_be_2 11 rfl rfl)
theorem dX3_be_62 : decode cX3_be 62 = .ok (.iconst 0, 1) := dk_3 (dk_at dksX3_be_2 14 rfl rfl)
theorem dX3_be_63 : decode cX3_be 63 = .ok (.bipush 6, 2) := dk_16 6 (dk_at dksX3_be_2 15 rfl rfl)
theorem dX3_be_65 : decode cX3_be 65 = .ok (.invokestatic 91, 3) := dk_184 0 91 (dk_at dksX3_be_2 17 rfl rfl)
theorem dX3_be_68 : decode cX3_be 68 = .ok (.aload_n 1, 1) := dk_43 (dk_at dksX3_be_2 20 rfl rfl)
theorem dX3_be_69 : decode cX3_be 69 = .ok (.getfield 29, 3) := dk_180 0 29 (dk_at dksX3_be_2 21 rfl rfl)
theorem dX3_be_72 : decode cX3_be 72 = .ok (.iconst 0, 1) := dk_3 (dk_at dksX3_be_3 0 rfl rfl)
theorem dX3_be_73 : decode cX3_be 73 = .ok (.aload_n 0, 1) := dk_42 (dk_at dksX3_be_3 1 rfl rfl)
theorem dX3_be_74 : decode cX3_be 74 = .ok (.getfield 29, 3) := dk_180 0 29 (dk_at dksX3_be_3 2 rfl rfl)
theorem dX3_be_77 : decode cX3_be 77 = .ok (.iconst 0, 1) := dk_3 (dk_at dksX3_be_3 5 rfl rfl)
theorem dX3_be_78 : decode cX3_be 78 = .ok (.bipush 6, 2) := dk_16 6 (dk_at dksX3_be_3 6 rfl rfl)
theorem dX3_be_80 : decode cX3_be 80 = .ok (.invokestatic 91, 3) := dk_184 0 91 (dk_at dksX3_be_3 8 rfl rfl)
theorem dX3_be_83 : decode cX3_be 83 = .ok (.aload_n 1, 1) := dk_43 (dk_at dksX3_be_3 11 rfl rfl)
theorem dX3_be_84 : decode cX3_be 84 = .ok (.getfield 32, 3) := dk_180 0 32 (dk_at dksX3_be_3 12 rfl rfl)
theorem dX3_be_87 : decode cX3_be 87 = .ok (.iconst 0, 1) := dk_3 (dk_at dksX3_be_3 15 rfl rfl)
theorem dX3_be_88 : decode cX3_be 88 = .ok (.aload_n 0, 1) := dk_42 (dk_at dksX3_be_3 16 rfl rfl)
theorem dX3_be_89 : decode cX3_be 89 = .ok (.getfield 32, 3) := dk_180 0 32 (dk_at dksX3_be_3 17 rfl rfl)
theorem dX3_be_92 : decode cX3_be 92 = .ok (.iconst 0, 1) := dk_3 (dk_at dksX3_be_3 20 rfl rfl)
theorem dX3_be_93 : decode cX3_be 93 = .ok (.bipush 6, 2) := dk_16 6 (dk_at dksX3_be_3 21 rfl rfl)
theorem dX3_be_95 : decode cX3_be 95 = .ok (.invokestatic 91, 3) := dk_184 0 91 (dk_at dksX3_be_4 0 rfl rfl)
theorem dX3_be_98 : decode cX3_be 98 = .ok (.aload_n 1, 1) := dk_43 (dk_at dksX3_be_4 3 rfl rfl)
theorem dX3_be_99 : decode cX3_be 99 = .ok (.getfield 35, 3) := dk_180 0 35 (dk_at dksX3_be_4 4 rfl rfl)
theorem dX3_be_102 : decode cX3_be 102 = .ok (.iconst 0, 1) := dk_3 (dk_at dksX3_be_4 7 rfl rfl)
theorem dX3_be_103 : decode cX3_be 103 = .ok (.aload_n 0, 1) := dk_42 (dk_at dksX3_be_4 8 rfl rfl)
theorem dX3_be_104 : decode cX3_be 104 = .ok (.getfield 35, 3) := dk_180 0 35 (dk_at dksX3_be_4 9 rfl rfl)
theorem dX3_be_107 : decode cX3_be 107 = .ok (.iconst 0, 1) := dk_3 (dk_at dksX3_be_4 12 rfl rfl)
theorem dX3_be_108 : decode cX3_be 108 = .ok (.bipush 36, 2) := dk_16 36 (dk_at dksX3_be_4 13 rfl rfl)
theorem dX3_be_110 : decode cX3_be 110 = .ok (.invokestatic 91, 3) := dk_184 0 91 (dk_at dksX3_be_4 15 rfl rfl)
theorem dX3_be_113 : decode cX3_be 113 = .ok (.aload_n 0, 1) := dk_42 (dk_at dksX3_be_4 18 rfl rfl)
theorem dX3_be_114 : decode cX3_be 114 = .ok (.getfield 43, 3) := dk_180 0 43 (dk_at dksX3_be_4 19 rfl rfl)
theorem dX3_be_117 : decode cX3_be 117 = .ok (.invokevirtual 54, 3) := dk_182 0 54 (dk_at dksX3_be_5 0 rfl rfl)
theorem dX3_be_120 : decode cX3_be 120 = .ok (.iconst 0, 1) := dk_3 (dk_at dksX3_be_5 3 rfl rfl)
theorem dX3_be_121 : decode cX3_be 121 = .ok (.istore_n 2, 1) := dk_61 (dk_at dksX3_be_5 4 rfl rfl)
theorem dX3_be_122 : decode cX3_be 122 = .ok (.iload_n 2, 1) := dk_28 (dk_at dksX3_be_5 5 rfl rfl)
theorem dX3_be_123 : decode cX3_be 123 = .ok (.aload_n 1, 1) := dk_43 (dk_at dksX3_be_5 6 rfl rfl)
theorem dX3_be_124 : decode cX3_be 124 = .ok (.getfield 43, 3) := dk_180 0 43 (dk_at dksX3_be_5 7 rfl rfl)
theorem dX3_be_127 : decode cX3_be 127 = .ok (.invokevirtual 97, 3) := dk_182 0 97 (dk_at dksX3_be_5 10 rfl rfl)
theorem dX3_be_130 : decode cX3_be 130 = .ok (.if_icmp .ge 28, 3) := dk_162 0 28 (dk_at dksX3_be_5 13 rfl rfl)
theorem dX3_be_133 : decode cX3_be 133 = .ok (.aload_n 0, 1) := dk_42 (dk_at dksX3_be_5 16 rfl rfl)
theorem dX3_be_134 : decode cX3_be 134 = .ok (.getfield 43, 3) := dk_180 0 43 (dk_at dksX3_be_5 17 rfl rfl)
theorem dX3_be_137 : decode cX3_be 137 = .ok (.aload_n 1, 1) := dk_43 (dk_at dksX3_be_5 20 rfl rfl)
theorem dX3_be_138 : decode cX3_be 138 = .ok (.getfield 43, 3) := dk_180 0 43 (dk_at dksX3_be_5 21 rfl rfl)
theorem dX3_be_141 : decode cX3_be 141 = .ok (.iload_n 2, 1) := dk_28 (dk_at dksX3_be_6 0 rfl rfl)
theorem dX3_be_142 : decode cX3_be 142 = .ok (.invokevirtual 101, 3) := dk_182 0 101 (dk_at dksX3_be_6 1 rfl rfl)
theorem dX3_be_145 : decode cX3_be 145 = .ok (.checkcast 105, 3) := dk_192 0 105 (dk_at dksX3_be_6 4 rfl rfl)
theorem dX3_be_148 : decode cX3_be 148 = .ok (.invokevirtual 107, 3) := dk_182 0 107 (dk_at dksX3_be_6 7 rfl rfl)
theorem dX3_be_151 : decode cX3_be 151 = .ok (.pop, 1) := dk_87 (dk_at dksX3_be_6 10 rfl rfl)
theorem dX3_be_152 : decode cX3_be 152 = .ok (.iinc 2 1, 3) := dk_132 2 1 (dk_at dksX3_be_6 11 rfl rfl)
theorem dX3_be_155 : decode cX3_be 155 = .ok (.goto (-33), 3) := dk_167 255 223 (dk_at dksX3_be_6 14 rfl rfl)
theorem dX3_be_158 : decode cX3_be 158 = .ok (.aload_n 1, 1) := dk_43 (dk_at dksX3_be_6 17 rfl rfl)
theorem dX3_be_159 : decode cX3_be 159 = .ok (.getfield 47, 3) := dk_180 0 47 (dk_at dksX3_be_6 18 rfl rfl)
theorem dX3_be_162 : decode cX3_be 162 = .ok (.iconst 0, 1) := dk_3 (dk_at dksX3_be_6 21 rfl rfl)
theorem dX3_be_163 : decode cX3_be 163 = .ok (.aload_n 0, 1) := dk_42 (dk_at dksX3_be_6 22 rfl rfl)
theorem dX3_be_164 : decode cX3_be 164 = .ok (.getfield 47, 3) := dk_180 0 47 (dk_at dksX3_be_7 0 rfl rfl)
theorem dX3_be_167 : decode cX3_be 167 = .ok (.iconst 0, 1) := dk_3 (dk_at dksX3_be_7 3 rfl rfl)
theorem dX3_be_168 : decode cX3_be 168 = .ok (.bipush 64, 2) := dk_16 64 (dk_at dksX3_be_7 4 rfl rfl)
theorem dX3_be_170 : decode cX3_be 170 = .ok (.invokestatic 91, 3) := dk_184 0 91 (dk_at dksX3_be_7 6 rfl rfl)
theorem dX3_be_173 : decode cX3_be 173 = .ok (.aload_n 0, 1) := dk_42 (dk_at dksX3_be_7 9 rfl rfl)
theorem dX3_be_174 : decode cX3_be 174 = .ok (.aload_n 1, 1) := dk_43 (dk_at dksX3_be_7 10 rfl rfl)
theorem dX3_be_175 : decode cX3_be 175 = .ok (.getfield 57, 3) := dk_180 0 57 (dk_at dksX3_be_7 11 rfl rfl)
theorem dX3_be_178 : decode cX3_be 178 = .ok (.putfield 57, 3) := dk_181 0 57 (dk_at dksX3_be_7 14 rfl rfl)
theorem dX3_be_181 : decode cX3_be 181 = .ok (.aload_n 0, 1) := dk_42 (dk_at dksX3_be_7 17 rfl rfl)
theorem dX3_be_182 : decode cX3_be 182 = .ok (.aload_n 1, 1) := dk_43 (dk_at dksX3_be_7 18 rfl rfl)
theorem dX3_be_183 : decode cX3_be 183 = .ok (.getfield 61, 3) := dk_180 0 61 (dk_at dksX3_be_7 19 rfl rfl)
theorem dX3_be_186 : decode cX3_be 186 = .ok (.putfield 61, 3) := dk_181 0 61 (dk_at dksX3_be_8 0 rfl rfl)
theorem dX3_be_189 : decode cX3_be 189 = .ok (.aload_n 0, 1) := dk_42 (dk_at dksX3_be_8 3 rfl rfl)
theorem dX3_be_190 : decode cX3_be 190 = .ok (.aload_n 1, 1) := dk_43 (dk_at dksX3_be_8 4 rfl rfl)
theorem dX3_be_191 : decode cX3_be 191 = .ok (.getfield 64, 3) := dk_180 0 64 (dk_at dksX3_be_8 5 rfl rfl)
theorem dX3_be_194 : decode cX3_be 194 = .ok (.putfield 64, 3) := dk_181 0 64 (dk_at dksX3_be_8 8 rfl rfl)
theorem dX3_be_197 : decode cX3_be 197 = .ok (.aload_n 0, 1) := dk_42 (dk_at dksX3_be_8 11 rfl rfl)
theorem dX3_be_198 : decode cX3_be 198 = .ok (.aload_n 1, 1) := dk_43 (dk_at dksX3_be_8 12 rfl rfl)
theorem dX3_be_199 : decode cX3_be 199 = .ok (.getfield 67, 3) := dk_180 0 67 (dk_at dksX3_be_8 13 rfl rfl)
theorem dX3_be_202 : decode cX3_be 202 = .ok (.putfield 67, 3) := dk_181 0 67 (dk_at dksX3_be_8 16 rfl rfl)
theorem dX3_be_205 : decode cX3_be 205 = .ok (.aload_n 0, 1) := dk_42 (dk_at dksX3_be_8 19 rfl rfl)
theorem dX3_be_206 : decode cX3_be 206 = .ok (.aload_n 1, 1) := dk_43 (dk_at dksX3_be_8 20 rfl rfl)
theorem dX3_be_207 : decode cX3_be 207 = .ok (.getfield 70, 3) := dk_180 0 70 (dk_at dksX3_be_8 21 rfl rfl)
theorem dX3_be_210 : decode cX3_be 210 = .ok (.putfield 70, 3) := dk_181 0 70 (dk_at dksX3_be_9 0 rfl rfl)
theorem dX3_be_213 : decode cX3_be 213 = .ok (.aload_n 0, 1) := dk_42 (dk_at dksX3_be_9 3 rfl rfl)
theorem dX3_be_214 : decode cX3_be 214 = .ok (.aload_n 1, 1) := dk_43 (dk_at dksX3_be_9 4 rfl rfl)
theorem dX3_be_215 : decode cX3_be 215 = .ok (.getfield 73, 3) := dk_180 0 73 (dk_at dksX3_be_9 5 rfl rfl)
theorem dX3_be_218 : decode cX3_be 218 = .ok (.putfield 73, 3) := dk_181 0 73 (dk_at dksX3_be_9 8 rfl rfl)
theorem dX3_be_221 : decode cX3_be 221 = .ok (.aload_n 0, 1) := dk_42 (dk_at dksX3_be_9 11 rfl rfl)
theorem dX3_be_222 : decode cX3_be 222 = .ok (.aload_n 1, 1) := dk_43 (dk_at dksX3_be_9 12 rfl rfl)
theorem dX3_be_223 : decode cX3_be 223 = .ok (.getfield 76, 3) := dk_180 0 76 (dk_at dksX3_be_9 13 rfl rfl)
theorem dX3_be_226 : decode cX3_be 226 = .ok (.putfield 76, 3) := dk_181 0 76 (dk_at dksX3_be_9 16 rfl rfl)
theorem dX3_be_229 : decode cX3_be 229 = .ok (.aload_n 0, 1) := dk_42 (dk_at dksX3_be_9 19 rfl rfl)
theorem dX3_be_230 : decode cX3_be 230 = .ok (.aload_n 1, 1) := dk_43 (dk_at dksX3_be_9 20 rfl rfl)
theorem dX3_be_231 : decode cX3_be 231 = .ok (.getfield 79, 3) := dk_180 0 79 (dk_at dksX3_be_9 21 rfl rfl)
theorem dX3_be_234 : decode cX3_be 234 = .ok (.putfield 79, 3) := dk_181 0 79 (dk_at dksX3_be_10 0 rfl rfl)
theorem dX3_be_237 : decode cX3_be 237 = .ok (.aload_n 0, 1) := dk_42 (dk_at dksX3_be_10 3 rfl rfl)
theorem dX3_be_238 : decode cX3_be 238 = .ok (.aload_n 1, 1) := dk_43 (dk_at dksX3_be_10 4 rfl rfl)
theorem dX3_be_239 : decode cX3_be 239 = .ok (.getfield 82, 3) := dk_180 0 82 (dk_at dksX3_be_10 5 rfl rfl)
theorem dX3_be_242 : decode cX3_be 242 = .ok (.putfield 82, 3) := dk_181 0 82 (dk_at dksX3_be_10 8 rfl rfl)
theorem dX3_be_245 : decode cX3_be 245 = .ok (.aload_n 0, 1) := dk_42 (dk_at dksX3_be_10 11 rfl rfl)
theorem dX3_be_246 : decode cX3_be 246 = .ok (.aload_n 1, 1) := dk_43 (dk_at dksX3_be_10 12 rfl rfl)
theorem dX3_be_247 : decode cX3_be 247 = .ok (.getfield 85, 3) := dk_180 0 85 (dk_at dksX3_be_10 13 rfl rfl)
theorem dX3_be_250 : decode cX3_be 250 = .ok (.putfield 85, 3) := dk_181 0 85 (dk_at dksX3_be_10 16 rfl rfl)
theorem dX3_be_253 : decode cX3_be 253 = .ok (.aload_n 0, 1) := dk_42 (dk_at dksX3_be_10 19 rfl rfl)
theorem dX3_be_254 : decode cX3_be 254 = .ok (.aload_n 1, 1) := dk_43 (dk_at dksX3_be_10 20 rfl rfl)
theorem dX3_be_255 : decode cX3_be 255 = .ok (.getfield 88, 3) := dk_180 0 88 (dk_at dksX3_be_10 21 rfl rfl)
theorem dX3_be_258 : decode cX3_be 258 = .ok (.putfield 88, 3) := dk_181 0 88 (dk_at dksX3_be_11 0 rfl rfl)
theorem dX3_be_261 : decode cX3_be 261 = .ok (.return_, 1) := dk_177 (dk_at dksX3_be_11 3 rfl rfl)
abbrev cX3_goes : ByteArray := prog_13_method_20_code
def yX3_goes : MethodName := ⟨RX3, "goes", "(I)V"⟩
def dkwX3_goes_0 : List UInt8 := [3, 61, 28, 27, 162, 0, 13, 42, 182, 1, 11, 132, 2, 1, 167, 255, 244, 177]
abbrev dktX3_goes_0 : List UInt8 := dkwX3_goes_0 ++ []
theorem dksX3_goes_0 : cX3_goes.data.toList.drop 0 = dktX3_goes_0 := by decide +kernel
theorem dX3_goes_0 : decode cX3_goes 0 = .ok (.iconst 0, 1) := dk_3 (dk_at dksX3_goes_0 0 rfl rfl)
theorem dX3_goes_1 : decode cX3_goes 1 = .ok (.istore_n 2, 1) := dk_61 (dk_at dksX3_goes_0 1 rfl rfl)
theorem dX3_goes_2 : decode cX3_goes 2 = .ok (.iload_n 2, 1) := dk_28 (dk_at dksX3_goes_0 2 rfl rfl)
theorem dX3_goes_3 : decode cX3_goes 3 = .ok (.iload_n 1, 1) := dk_27 (dk_at dksX3_goes_0 3 rfl rfl)
theorem dX3_goes_4 : decode cX3_goes 4 = .ok (.if_icmp .ge 13, 3) := dk_162 0 13 (dk_at dksX3_goes_0 4 rfl rfl)
theorem dX3_goes_7 : decode cX3_goes 7 = .ok (.aload_n 0, 1) := dk_42 (dk_at dksX3_goes_0 7 rfl rfl)
theorem dX3_goes_8 : decode cX3_goes 8 = .ok (.invokevirtual 267, 3) := dk_182 1 11 (dk_at dksX3_goes_0 8 rfl rfl)
theorem dX3_goes_11 : decode cX3_goes 11 = .ok (.iinc 2 1, 3) := dk_132 2 1 (dk_at dksX3_goes_0 11 rfl rfl)
theorem dX3_goes_14 : decode cX3_goes 14 = .ok (.goto (-12), 3) := dk_167 255 244 (dk_at dksX3_goes_0 14 rfl rfl)
theorem dX3_goes_17 : decode cX3_goes 17 = .ok (.return_, 1) := dk_177 (dk_at dksX3_goes_0 17 rfl rfl)
abbrev cX3_tick : ByteArray := prog_13_method_17_code
def yX3_tick : MethodName := ⟨RX3, "tick", "()V"⟩
def dkwX3_tick_10 : List UInt8 := [177]
abbrev dktX3_tick_10 : List UInt8 := dkwX3_tick_10 ++ []
def dkwX3_tick_9 : List UInt8 := [42, 180, 0, 61, 4, 182, 0, 116, 42, 180, 0, 47, 42, 180, 0, 57, 16, 64, 112, 42, 180, 0, 61, 79]
abbrev dktX3_tick_9 : List UInt8 := dkwX3_tick_9 ++ dktX3_tick_10
def dkwX3_tick_8 : List UInt8 := [182, 0, 252, 153, 0, 11, 42, 42, 182, 0, 255, 182, 1, 2, 42, 180, 0, 61, 16, 254, 159, 0, 12, 42]
abbrev dktX3_tick_8 : List UInt8 := dkwX3_tick_8 ++ dktX3_tick_9
def dkwX3_tick_7 : List UInt8 := [180, 0, 70, 16, 254, 160, 0, 7, 42, 182, 0, 249, 42, 180, 0, 70, 16, 254, 160, 0, 18, 42]
abbrev dktX3_tick_7 : List UInt8 := dkwX3_tick_7 ++ dktX3_tick_8
def dkwX3_tick_6 : List UInt8 := [182, 0, 246, 42, 180, 0, 61, 16, 254, 160, 0, 25, 42, 180, 0, 67, 16, 254, 159, 0, 16, 42]
abbrev dktX3_tick_6 : List UInt8 := dkwX3_tick_6 ++ dktX3_tick_7
def dkwX3_tick_5 : List UInt8 := [16, 254, 181, 0, 61, 42, 16, 254, 181, 0, 64, 42, 180, 0, 70, 42, 180, 0, 57, 160, 0, 7, 42]
abbrev dktX3_tick_5 : List UInt8 := dkwX3_tick_5 ++ dktX3_tick_6
def dkwX3_tick_4 : List UInt8 := [167, 255, 176, 42, 180, 0, 61, 16, 254, 159, 0, 26, 42, 180, 0, 64, 42, 180, 0, 57, 160, 0, 15, 42]
abbrev dktX3_tick_4 : List UInt8 := dkwX3_tick_4 ++ dktX3_tick_5
def dkwX3_tick_3 : List UInt8 := [180, 0, 50, 180, 0, 120, 27, 182, 0, 101, 192, 0, 122, 182, 0, 240, 182, 0, 243, 87, 132, 1, 1]
abbrev dktX3_tick_3 : List UInt8 := dkwX3_tick_3 ++ dktX3_tick_4
def dkwX3_tick_2 : List UInt8 := [160, 0, 42, 42, 42, 180, 0, 50, 180, 0, 120, 27, 182, 0, 101, 192, 0, 122, 182, 0, 238, 42]
abbrev dktX3_tick_2 : List UInt8 := dkwX3_tick_2 ++ dktX3_tick_3
def dkwX3_tick_1 : List UInt8 := [162, 0, 72, 42, 180, 0, 50, 180, 0, 120, 27, 182, 0, 101, 192, 0, 122, 182, 0, 124, 42, 180, 0, 57]
abbrev dktX3_tick_1 : List UInt8 := dkwX3_tick_1 ++ dktX3_tick_2
def dkwX3_tick_0 : List UInt8 := [42, 89, 180, 0, 57, 4, 96, 181, 0, 57, 3, 60, 27, 42, 180, 0, 50, 180, 0, 120, 182, 0, 97]
abbrev dktX3_tick_0 : List UInt8 := dkwX3_tick_0 ++ dktX3_tick_1
theorem dksX3_tick_0 : cX3_tick.data.toList.drop 0 = dktX3_tick_0 := by decide +kernel
theorem dksX3_tick_1 : cX3_tick.data.toList.drop 23 = dktX3_tick_1 := dk_seg dksX3_tick_0 23 rfl rfl
theorem dksX3_tick_2 : cX3_tick.data.toList.drop 47 = dktX3_tick_2 := dk_seg dksX3_tick_1 24 rfl rfl
theorem dksX3_tick_3 : cX3_tick.data.toList.drop 69 = dktX3_tick_3 := dk_seg dksX3_tick_2 22 rfl rfl
theorem dksX3_tick_4 : cX3_tick.data.toList.drop 92 = dktX3_tick_4 := dk_seg dksX3_tick_3 23 rfl rfl
theorem dksX3_tick_5 : cX3_tick.data.toList.drop 116 = dktX3_tick_5 := dk_seg dksX3_tick_4 24 rfl rfl
theorem dksX3_tick_6 : cX3_tick.data.toList.drop 139 = dktX3_tick_6 := dk_seg dksX3_tick_5 23 rfl rfl
theorem dksX3_tick_7 : cX3_tick.data.toList.drop 161 = dktX3_tick_7 := dk_seg dksX3_tick_6 22 rfl rfl
theorem dksX3_tick_8 : cX3_tick.data.toList.drop 183 = dktX3_tick_8 := dk_seg dksX3_tick_7 22 rfl rfl
theorem dksX3_tick_9 : cX3_tick.data.toList.drop 207 = dktX3_tick_9 := dk_seg dksX3_tick_8 24 rfl rfl
theorem dksX3_tick_10 : cX3_tick.data.toList.drop 231 = dktX3_tick_10 := dk_seg dksX3_tick_9 24 rfl rfl
theorem dX3_tick_0 : decode cX3_tick 0 = .ok (.aload_n 0, 1) := dk_42 (dk_at dksX3_tick_0 0 rfl rfl)
theorem dX3_tick_1 : decode cX3_tick 1 = .ok (.dup, 1) := dk_89 (dk_at dksX3_tick_0 1 rfl rfl)
theorem dX3_tick_2 : decode cX3_tick 2 = .ok (.getfield 57, 3) := dk_180 0 57 (dk_at dksX3_tick_0 2 rfl rfl)
theorem dX3_tick_5 : decode cX3_tick 5 = .ok (.iconst 1, 1) := dk_4 (dk_at dksX3_tick_0 5 rfl rfl)
theorem dX3_tick_6 : decode cX3_tick 6 = .ok (.iadd, 1) := dk_96 (dk_at dksX3_tick_0 6 rfl rfl)
theorem dX3_tick_7 : decode cX3_tick 7 = .ok (.putfield 57, 3) := dk_181 0 57 (dk_at dksX3_tick_0 7 rfl rfl)
theorem dX3_tick_10 : decode cX3_tick 10 = .ok (.iconst 0, 1) := dk_3 (dk_at dksX3_tick_0 10 rfl rfl)
theorem dX3_tick_11 : decode cX3_tick 11 = .ok (.istore_n 1, 1) := dk_60 (dk_at dksX3_tick_0 11 rfl rfl)
theorem dX3_tick_12 : decode cX3_tick 12 = .ok (.iload_n 1, 1) := dk_27 (dk_at dksX3_tick_0 12 rfl rfl)
theorem dX3_tick_13 : decode cX3_tick 13 = .ok (.aload_n 0, 1) := dk_42 (dk_at dksX3_tick_0 13 rfl rfl)
theorem dX3_tick_14 : decode cX3_tick 14 = .ok (.getfield 50, 3) := dk_180 0 50 (dk_at dksX3_tick_0 14 rfl rfl)
theorem dX3_tick_17 : decode cX3_tick 17 = .ok (.getfield 120, 3) := dk_180 0 120 (dk_at dksX3_tick_0 17 rfl rfl)
theorem dX3_tick_20 : decode cX3_tick 20 = .ok (.invokevirtual 97, 3) := dk_182 0 97 (dk_at dksX3_tick_0 20 rfl rfl)
theorem dX3_tick_23 : decode cX3_tick 23 = .ok (.if_icmp .ge 72, 3) := dk_162 0 72 (dk_at dksX3_tick_1 0 rfl rfl)
theorem dX3_tick_26 : decode cX3_tick 26 = .ok (.aload_n 0, 1) := dk_42 (dk_at dksX3_tick_1 3 rfl rfl)
theorem dX3_tick_27 : decode cX3_tick 27 = .ok (.getfield 50, 3) := dk_180 0 50 (dk_at dksX3_tick_1 4 rfl rfl)
theorem dX3_tick_30 : decode cX3_tick 30 = .ok (.getfield 120, 3) := dk_180 0 120 (dk_at dksX3_tick_1 7 rfl rfl)
theorem dX3_tick_33 : decode cX3_tick 33 = .ok (.iload_n 1, 1) := dk_27 (dk_at dksX3_tick_1 10 rfl rfl)
theorem dX3_tick_34 : decode cX3_tick 34 = .ok (.invokevirtual 101, 3) := dk_182 0 101 (dk_at dksX3_tick_1 11 rfl rfl)
theorem dX3_tick_37 : decode cX3_tick 37 = .ok (.checkcast 122, 3) := dk_192 0 122 (dk_at dksX3_tick_1 14 rfl rfl)
theorem dX3_tick_40 : decode cX3_tick 40 = .ok (.invokevirtual 124, 3) := dk_182 0 124 (dk_at dksX3_tick_1 17 rfl rfl)
theorem dX3_tick_43 : decode cX3_tick 43 = .ok (.aload_n 0, 1) := dk_42 (dk_at dksX3_tick_1 20 rfl rfl)
theorem dX3_tick_44 : decode cX3_tick 44 = .ok (.getfield 57, 3) := dk_180 0 57 (dk_at dksX3_tick_1 21 rfl rfl)
theorem dX3_tick_47 : decode cX3_tick 47 = .ok (.if_icmp .ne 42, 3) := dk_160 0 42 (dk_at dksX3_tick_2 0 rfl rfl)
theorem dX3_tick_50 : decode cX3_tick 50 = .ok (.aload_n 0, 1) := dk_42 (dk_at dksX3_tick_2 3 rfl rfl)
theorem dX3_tick_51 : decode cX3_tick 51 = .ok (.aload_n 0, 1) := dk_42 (dk_at dksX3_tick_2 4 rfl rfl)
theorem dX3_tick_52 : decode cX3_tick 52 = .ok (.getfield 50, 3) := dk_180 0 50 (dk_at dksX3_tick_2 5 rfl rfl)
theorem dX3_tick_55 : decode cX3_tick 55 = .ok (.getfield 120, 3) := dk_180 0 120 (dk_at dksX3_tick_2 8 rfl rfl)
theorem dX3_tick_58 : decode cX3_tick 58 = .ok (.iload_n 1, 1) := dk_27 (dk_at dksX3_tick_2 11 rfl rfl)
theorem dX3_tick_59 : decode cX3_tick 59 = .ok (.invokevirtual 101, 3) := dk_182 0 101 (dk_at dksX3_tick_2 12 rfl rfl)
theorem dX3_tick_62 : decode cX3_tick 62 = .ok (.checkcast 122, 3) := dk_192 0 122 (dk_at dksX3_tick_2 15 rfl rfl)
theorem dX3_tick_65 : decode cX3_tick 65 = .ok (.invokevirtual 238, 3) := dk_182 0 238 (dk_at dksX3_tick_2 18 rfl rfl)
theorem dX3_tick_68 : decode cX3_tick 68 = .ok (.aload_n 0, 1) := dk_42 (dk_at dksX3_tick_2 21 rfl rfl)
theorem dX3_tick_69 : decode cX3_tick 69 = .ok (.getfield 50, 3) := dk_180 0 50 (dk_at dksX3_tick_3 0 rfl rfl)
theorem dX3_tick_72 : decode cX3_tick 72 = .ok (.getfield 120, 3) := dk_180 0 120 (dk_at dksX3_tick_3 3 rfl rfl)
theorem dX3_tick_75 : decode cX3_tick 75 = .ok (.iload_n 1, 1) := dk_27 (dk_at dksX3_tick_3 6 rfl rfl)
theorem dX3_tick_76 : decode cX3_tick 76 = .ok (.invokevirtual 101, 3) := dk_182 0 101 (dk_at dksX3_tick_3 7 rfl rfl)
theorem dX3_tick_79 : decode cX3_tick 79 = .ok (.checkcast 122, 3) := dk_192 0 122 (dk_at dksX3_tick_3 10 rfl rfl)
theorem dX3_tick_82 : decode cX3_tick 82 = .ok (.invokevirtual 240, 3) := dk_182 0 240 (dk_at dksX3_tick_3 13 rfl rfl)
theorem dX3_tick_85 : decode cX3_tick 85 = .ok (.invokevirtual 243, 3) := dk_182 0 243 (dk_at dksX3_tick_3 16 rfl rfl)
theorem dX3_tick_88 : decode cX3_tick 88 = .ok (.pop, 1) := dk_87 (dk_at dksX3_tick_3 19 rfl rfl)
theorem dX3_tick_89 : decode cX3_tick 89 = .ok (.iinc 1 1, 3) := dk_132 1 1 (dk_at dksX3_tick_3 20 rfl rfl)
theorem dX3_tick_92 : decode cX3_tick 92 = .ok (.goto (-80), 3) := dk_167 255 176 (dk_at dksX3_tick_4 0 rfl rfl)
theorem dX3_tick_95 : decode cX3_tick 95 = .ok (.aload_n 0, 1) := dk_42 (dk_at dksX3_tick_4 3 rfl rfl)
theorem dX3_tick_96 : decode cX3_tick 96 = .ok (.getfield 61, 3) := dk_180 0 61 (dk_at dksX3_tick_4 4 rfl rfl)
theorem dX3_tick_99 : decode cX3_tick 99 = .ok (.bipush (-2), 2) := dk_16 254 (dk_at dksX3_tick_4 7 rfl rfl)
theorem dX3_tick_101 : decode cX3_tick 101 = .ok (.if_icmp .eq 26, 3) := dk_159 0 26 (dk_at dksX3_tick_4 9 rfl rfl)
theorem dX3_tick_104 : decode cX3_tick 104 = .ok (.aload_n 0, 1) := dk_42 (dk_at dksX3_tick_4 12 rfl rfl)
theorem dX3_tick_105 : decode cX3_tick 105 = .ok (.getfield 64, 3) := dk_180 0 64 (dk_at dksX3_tick_4 13 rfl rfl)
theorem dX3_tick_108 : decode cX3_tick 108 = .ok (.aload_n 0, 1) := dk_42 (dk_at dksX3_tick_4 16 rfl rfl)
theorem dX3_tick_109 : decode cX3_tick 109 = .ok (.getfield 57, 3) := dk_180 0 57 (dk_at dksX3_tick_4 17 rfl rfl)
theorem dX3_tick_112 : decode cX3_tick 112 = .ok (.if_icmp .ne 15, 3) := dk_160 0 15 (dk_at dksX3_tick_4 20 rfl rfl)
theorem dX3_tick_115 : decode cX3_tick 115 = .ok (.aload_n 0, 1) := dk_42 (dk_at dksX3_tick_4 23 rfl rfl)
theorem dX3_tick_116 : decode cX3_tick 116 = .ok (.bipush (-2), 2) := dk_16 254 (dk_at dksX3_tick_5 0 rfl rfl)
theorem dX3_tick_118 : decode cX3_tick 118 = .ok (.putfield 61, 3) := dk_181 0 61 (dk_at dksX3_tick_5 2 rfl rfl)
theorem dX3_tick_121 : decode cX3_tick 121 = .ok (.aload_n 0, 1) := dk_42 (dk_at dksX3_tick_5 5 rfl rfl)
theorem dX3_tick_122 : decode cX3_tick 122 = .ok (.bipush (-2), 2) := dk_16 254 (dk_at dksX3_tick_5 6 rfl rfl)
theorem dX3_tick_124 : decode cX3_tick 124 = .ok (.putfield 64, 3) := dk_181 0 64 (dk_at dksX3_tick_5 8 rfl rfl)
theorem dX3_tick_127 : decode cX3_tick 127 = .ok (.aload_n 0, 1) := dk_42 (dk_at dksX3_tick_5 11 rfl rfl)
theorem dX3_tick_128 : decode cX3_tick 128 = .ok (.getfield 70, 3) := dk_180 0 70 (dk_at dksX3_tick_5 12 rfl rfl)
theorem dX3_tick_131 : decode cX3_tick 131 = .ok (.aload_n 0, 1) := dk_42 (dk_at dksX3_tick_5 15 rfl rfl)
theorem dX3_tick_132 : decode cX3_tick 132 = .ok (.getfield 57, 3) := dk_180 0 57 (dk_at dksX3_tick_5 16 rfl rfl)
theorem dX3_tick_135 : decode cX3_tick 135 = .ok (.if_icmp .ne 7, 3) := dk_160 0 7 (dk_at dksX3_tick_5 19 rfl rfl)
theorem dX3_tick_138 : decode cX3_tick 138 = .ok (.aload_n 0, 1) := dk_42 (dk_at dksX3_tick_5 22 rfl rfl)
theorem dX3_tick_139 : decode cX3_tick 139 = .ok (.invokevirtual 246, 3) := dk_182 0 246 (dk_at dksX3_tick_6 0 rfl rfl)
theorem dX3_tick_142 : decode cX3_tick 142 = .ok (.aload_n 0, 1) := dk_42 (dk_at dksX3_tick_6 3 rfl rfl)
theorem dX3_tick_143 : decode cX3_tick 143 = .ok (.getfield 61, 3) := dk_180 0 61 (dk_at dksX3_tick_6 4 rfl rfl)
theorem dX3_tick_146 : decode cX3_tick 146 = .ok (.bipush (-2), 2) := dk_16 254 (dk_at dksX3_tick_6 7 rfl rfl)
theorem dX3_tick_148 : decode cX3_tick 148 = .ok (.if_icmp .ne 25, 3) := dk_160 0 25 (dk_at dksX3_tick_6 9 rfl rfl)
theorem dX3_tick_151 : decode cX3_tick 151 = .ok (.aload_n 0, 1) := dk_42 (dk_at dksX3_tick_6 12 rfl rfl)
theorem dX3_tick_152 : decode cX3_tick 152 = .ok (.getfield 67, 3) := dk_180 0 67 (dk_at dksX3_tick_6 13 rfl rfl)
theorem dX3_tick_155 : decode cX3_tick 155 = .ok (.bipush (-2), 2) := dk_16 254 (dk_at dksX3_tick_6 16 rfl rfl)
theorem dX3_tick_157 : decode cX3_tick 157 = .ok (.if_icmp .eq 16, 3) := dk_159 0 16 (dk_at dksX3_tick_6 18 rfl rfl)
theorem dX3_tick_160 : decode cX3_tick 160 = .ok (.aload_n 0, 1) := dk_42 (dk_at dksX3_tick_6 21 rfl rfl)
theorem dX3_tick_161 : decode cX3_tick 161 = .ok (.getfield 70, 3) := dk_180 0 70 (dk_at dksX3_tick_7 0 rfl rfl)
theorem dX3_tick_164 : decode cX3_tick 164 = .ok (.bipush (-2), 2) := dk_16 254 (dk_at dksX3_tick_7 3 rfl rfl)
theorem dX3_tick_166 : decode cX3_tick 166 = .ok (.if_icmp .ne 7, 3) := dk_160 0 7 (dk_at dksX3_tick_7 5 rfl rfl)
theorem dX3_tick_169 : decode cX3_tick 169 = .ok (.aload_n 0, 1) := dk_42 (dk_at dksX3_tick_7 8 rfl rfl)
theorem dX3_tick_170 : decode cX3_tick 170 = .ok (.invokevirtual 249, 3) := dk_182 0 249 (dk_at dksX3_tick_7 9 rfl rfl)
theorem dX3_tick_173 : decode cX3_tick 173 = .ok (.aload_n 0, 1) := dk_42 (dk_at dksX3_tick_7 12 rfl rfl)
theorem dX3_tick_174 : decode cX3_tick 174 = .ok (.getfield 70, 3) := dk_180 0 70 (dk_at dksX3_tick_7 13 rfl rfl)
theorem dX3_tick_177 : decode cX3_tick 177 = .ok (.bipush (-2), 2) := dk_16 254 (dk_at dksX3_tick_7 16 rfl rfl)
theorem dX3_tick_179 : decode cX3_tick 179 = .ok (.if_icmp .ne 18, 3) := dk_160 0 18 (dk_at dksX3_tick_7 18 rfl rfl)
theorem dX3_tick_182 : decode cX3_tick 182 = .ok (.aload_n 0, 1) := dk_42 (dk_at dksX3_tick_7 21 rfl rfl)
theorem dX3_tick_183 : decode cX3_tick 183 = .ok (.invokevirtual 252, 3) := dk_182 0 252 (dk_at dksX3_tick_8 0 rfl rfl)
theorem dX3_tick_186 : decode cX3_tick 186 = .ok (.ifCond .eq 11, 3) := dk_153 0 11 (dk_at dksX3_tick_8 3 rfl rfl)
theorem dX3_tick_189 : decode cX3_tick 189 = .ok (.aload_n 0, 1) := dk_42 (dk_at dksX3_tick_8 6 rfl rfl)
theorem dX3_tick_190 : decode cX3_tick 190 = .ok (.aload_n 0, 1) := dk_42 (dk_at dksX3_tick_8 7 rfl rfl)
theorem dX3_tick_191 : decode cX3_tick 191 = .ok (.invokevirtual 255, 3) := dk_182 0 255 (dk_at dksX3_tick_8 8 rfl rfl)
theorem dX3_tick_194 : decode cX3_tick 194 = .ok (.invokevirtual 258, 3) := dk_182 1 2 (dk_at dksX3_tick_8 11 rfl rfl)
theorem dX3_tick_197 : decode cX3_tick 197 = .ok (.aload_n 0, 1) := dk_42 (dk_at dksX3_tick_8 14 rfl rfl)
theorem dX3_tick_198 : decode cX3_tick 198 = .ok (.getfield 61, 3) := dk_180 0 61 (dk_at dksX3_tick_8 15 rfl rfl)
theorem dX3_tick_201 : decode cX3_tick 201 = .ok (.bipush (-2), 2) := dk_16 254 (dk_at dksX3_tick_8 18 rfl rfl)
theorem dX3_tick_203 : decode cX3_tick 203 = .ok (.if_icmp .eq 12, 3) := dk_159 0 12 (dk_at dksX3_tick_8 20 rfl rfl)
theorem dX3_tick_206 : decode cX3_tick 206 = .ok (.aload_n 0, 1) := dk_42 (dk_at dksX3_tick_8 23 rfl rfl)
theorem dX3_tick_207 : decode cX3_tick 207 = .ok (.aload_n 0, 1) := dk_42 (dk_at dksX3_tick_9 0 rfl rfl)
theorem dX3_tick_208 : decode cX3_tick 208 = .ok (.getfield 61, 3) := dk_180 0 61 (dk_at dksX3_tick_9 1 rfl rfl)
theorem dX3_tick_211 : decode cX3_tick 211 = .ok (.iconst 1, 1) := dk_4 (dk_at dksX3_tick_9 4 rfl rfl)
theorem dX3_tick_212 : decode cX3_tick 212 = .ok (.invokevirtual 116, 3) := dk_182 0 116 (dk_at dksX3_tick_9 5 rfl rfl)
theorem dX3_tick_215 : decode cX3_tick 215 = .ok (.aload_n 0, 1) := dk_42 (dk_at dksX3_tick_9 8 rfl rfl)
theorem dX3_tick_216 : decode cX3_tick 216 = .ok (.getfield 47, 3) := dk_180 0 47 (dk_at dksX3_tick_9 9 rfl rfl)
theorem dX3_tick_219 : decode cX3_tick 219 = .ok (.aload_n 0, 1) := dk_42 (dk_at dksX3_tick_9 12 rfl rfl)
theorem dX3_tick_220 : decode cX3_tick 220 = .ok (.getfield 57, 3) := dk_180 0 57 (dk_at dksX3_tick_9 13 rfl rfl)
theorem dX3_tick_223 : decode cX3_tick 223 = .ok (.bipush 64, 2) := dk_16 64 (dk_at dksX3_tick_9 16 rfl rfl)
theorem dX3_tick_225 : decode cX3_tick 225 = .ok (.irem, 1) := dk_112 (dk_at dksX3_tick_9 18 rfl rfl)
theorem dX3_tick_226 : decode cX3_tick 226 = .ok (.aload_n 0, 1) := dk_42 (dk_at dksX3_tick_9 19 rfl rfl)
theorem dX3_tick_227 : decode cX3_tick 227 = .ok (.getfield 61, 3) := dk_180 0 61 (dk_at dksX3_tick_9 20 rfl rfl)
theorem dX3_tick_230 : decode cX3_tick 230 = .ok (.iastore, 1) := dk_79 (dk_at dksX3_tick_9 23 rfl rfl)
theorem dX3_tick_231 : decode cX3_tick 231 = .ok (.return_, 1) := dk_177 (dk_at dksX3_tick_10 0 rfl rfl)
abbrev cX3_hears : ByteArray := prog_13_method_7_code
def yX3_hears : MethodName := ⟨RX3, "hears", "(II)Z"⟩
def dkwX3_hears_1 : List UInt8 := [172, 42, 180, 0, 19, 27, 28, 79, 42, 180, 0, 23, 27, 42, 180, 0, 57, 79, 4, 172]
abbrev dktX3_hears_1 : List UInt8 := dkwX3_hears_1 ++ []
def dkwX3_hears_0 : List UInt8 := [42, 180, 0, 19, 27, 46, 157, 0, 11, 42, 180, 0, 61, 27, 160, 0, 11, 42, 27, 5, 182, 0, 116, 3]
abbrev dktX3_hears_0 : List UInt8 := dkwX3_hears_0 ++ dktX3_hears_1
theorem dksX3_hears_0 : cX3_hears.data.toList.drop 0 = dktX3_hears_0 := by decide +kernel
theorem dksX3_hears_1 : cX3_hears.data.toList.drop 24 = dktX3_hears_1 := dk_seg dksX3_hears_0 24 rfl rfl
theorem dX3_hears_0 : decode cX3_hears 0 = .ok (.aload_n 0, 1) := dk_42 (dk_at dksX3_hears_0 0 rfl rfl)
theorem dX3_hears_1 : decode cX3_hears 1 = .ok (.getfield 19, 3) := dk_180 0 19 (dk_at dksX3_hears_0 1 rfl rfl)
theorem dX3_hears_4 : decode cX3_hears 4 = .ok (.iload_n 1, 1) := dk_27 (dk_at dksX3_hears_0 4 rfl rfl)
theorem dX3_hears_5 : decode cX3_hears 5 = .ok (.iaload, 1) := dk_46 (dk_at dksX3_hears_0 5 rfl rfl)
theorem dX3_hears_6 : decode cX3_hears 6 = .ok (.ifCond .gt 11, 3) := dk_157 0 11 (dk_at dksX3_hears_0 6 rfl rfl)
theorem dX3_hears_9 : decode cX3_hears 9 = .ok (.aload_n 0, 1) := dk_42 (dk_at dksX3_hears_0 9 rfl rfl)
theorem dX3_hears_10 : decode cX3_hears 10 = .ok (.getfield 61, 3) := dk_180 0 61 (dk_at dksX3_hears_0 10 rfl rfl)
theorem dX3_hears_13 : decode cX3_hears 13 = .ok (.iload_n 1, 1) := dk_27 (dk_at dksX3_hears_0 13 rfl rfl)
theorem dX3_hears_14 : decode cX3_hears 14 = .ok (.if_icmp .ne 11, 3) := dk_160 0 11 (dk_at dksX3_hears_0 14 rfl rfl)
theorem dX3_hears_17 : decode cX3_hears 17 = .ok (.aload_n 0, 1) := dk_42 (dk_at dksX3_hears_0 17 rfl rfl)
theorem dX3_hears_18 : decode cX3_hears 18 = .ok (.iload_n 1, 1) := dk_27 (dk_at dksX3_hears_0 18 rfl rfl)
theorem dX3_hears_19 : decode cX3_hears 19 = .ok (.iconst 2, 1) := dk_5 (dk_at dksX3_hears_0 19 rfl rfl)
theorem dX3_hears_20 : decode cX3_hears 20 = .ok (.invokevirtual 116, 3) := dk_182 0 116 (dk_at dksX3_hears_0 20 rfl rfl)
theorem dX3_hears_23 : decode cX3_hears 23 = .ok (.iconst 0, 1) := dk_3 (dk_at dksX3_hears_0 23 rfl rfl)
theorem dX3_hears_24 : decode cX3_hears 24 = .ok (.ireturn, 1) := dk_172 (dk_at dksX3_hears_1 0 rfl rfl)
theorem dX3_hears_25 : decode cX3_hears 25 = .ok (.aload_n 0, 1) := dk_42 (dk_at dksX3_hears_1 1 rfl rfl)
theorem dX3_hears_26 : decode cX3_hears 26 = .ok (.getfield 19, 3) := dk_180 0 19 (dk_at dksX3_hears_1 2 rfl rfl)
theorem dX3_hears_29 : decode cX3_hears 29 = .ok (.iload_n 1, 1) := dk_27 (dk_at dksX3_hears_1 5 rfl rfl)
theorem dX3_hears_30 : decode cX3_hears 30 = .ok (.iload_n 2, 1) := dk_28 (dk_at dksX3_hears_1 6 rfl rfl)
theorem dX3_hears_31 : decode cX3_hears 31 = .ok (.iastore, 1) := dk_79 (dk_at dksX3_hears_1 7 rfl rfl)
theorem dX3_hears_32 : decode cX3_hears 32 = .ok (.aload_n 0, 1) := dk_42 (dk_at dksX3_hears_1 8 rfl rfl)
theorem dX3_hears_33 : decode cX3_hears 33 = .ok (.getfield 23, 3) := dk_180 0 23 (dk_at dksX3_hears_1 9 rfl rfl)
theorem dX3_hears_36 : decode cX3_hears 36 = .ok (.iload_n 1, 1) := dk_27 (dk_at dksX3_hears_1 12 rfl rfl)
theorem dX3_hears_37 : decode cX3_hears 37 = .ok (.aload_n 0, 1) := dk_42 (dk_at dksX3_hears_1 13 rfl rfl)
theorem dX3_hears_38 : decode cX3_hears 38 = .ok (.getfield 57, 3) := dk_180 0 57 (dk_at dksX3_hears_1 14 rfl rfl)
theorem dX3_hears_41 : decode cX3_hears 41 = .ok (.iastore, 1) := dk_79 (dk_at dksX3_hears_1 17 rfl rfl)
theorem dX3_hears_42 : decode cX3_hears 42 = .ok (.iconst 1, 1) := dk_4 (dk_at dksX3_hears_1 18 rfl rfl)
theorem dX3_hears_43 : decode cX3_hears 43 = .ok (.ireturn, 1) := dk_172 (dk_at dksX3_hears_1 19 rfl rfl)
abbrev cX3_counts : ByteArray := prog_13_method_4_code
def yX3_counts : MethodName := ⟨RX3, "counts", "(II)V"⟩
def dkwX3_counts_0 : List UInt8 := [42, 180, 0, 35, 16, 6, 27, 104, 28, 96, 92, 46, 4, 96, 79, 177]
abbrev dktX3_counts_0 : List UInt8 := dkwX3_counts_0 ++ []
theorem dksX3_counts_0 : cX3_counts.data.toList.drop 0 = dktX3_counts_0 := by decide +kernel
theorem dX3_counts_0 : decode cX3_counts 0 = .ok (.aload_n 0, 1) := dk_42 (dk_at dksX3_counts_0 0 rfl rfl)
theorem dX3_counts_1 : decode cX3_counts 1 = .ok (.getfield 35, 3) := dk_180 0 35 (dk_at dksX3_counts_0 1 rfl rfl)
theorem dX3_counts_4 : decode cX3_counts 4 = .ok (.bipush 6, 2) := dk_16 6 (dk_at dksX3_counts_0 4 rfl rfl)
theorem dX3_counts_6 : decode cX3_counts 6 = .ok (.iload_n 1, 1) := dk_27 (dk_at dksX3_counts_0 6 rfl rfl)
theorem dX3_counts_7 : decode cX3_counts 7 = .ok (.imul, 1) := dk_104 (dk_at dksX3_counts_0 7 rfl rfl)
theorem dX3_counts_8 : decode cX3_counts 8 = .ok (.iload_n 2, 1) := dk_28 (dk_at dksX3_counts_0 8 rfl rfl)
theorem dX3_counts_9 : decode cX3_counts 9 = .ok (.iadd, 1) := dk_96 (dk_at dksX3_counts_0 9 rfl rfl)
theorem dX3_counts_10 : decode cX3_counts 10 = .ok (.dup2, 1) := dk_92 (dk_at dksX3_counts_0 10 rfl rfl)
theorem dX3_counts_11 : decode cX3_counts 11 = .ok (.iaload, 1) := dk_46 (dk_at dksX3_counts_0 11 rfl rfl)
theorem dX3_counts_12 : decode cX3_counts 12 = .ok (.iconst 1, 1) := dk_4 (dk_at dksX3_counts_0 12 rfl rfl)
theorem dX3_counts_13 : decode cX3_counts 13 = .ok (.iadd, 1) := dk_96 (dk_at dksX3_counts_0 13 rfl rfl)
theorem dX3_counts_14 : decode cX3_counts 14 = .ok (.iastore, 1) := dk_79 (dk_at dksX3_counts_0 14 rfl rfl)
theorem dX3_counts_15 : decode cX3_counts 15 = .ok (.return_, 1) := dk_177 (dk_at dksX3_counts_0 15 rfl rfl)
abbrev cX3_isThrough : ByteArray := prog_13_method_14_code
def yX3_isThrough : MethodName := ⟨RX3, "isThrough", "()V"⟩
def dkwX3_isThrough_7 : List UInt8 := [42, 180, 0, 15, 27, 3, 84, 177]
abbrev dktX3_isThrough_7 : List UInt8 := dkwX3_isThrough_7 ++ []
def dkwX3_isThrough_6 : List UInt8 := [181, 0, 76, 3, 61, 28, 16, 6, 162, 0, 16, 42, 180, 0, 15, 28, 4, 84, 132, 2, 1, 167, 255, 240]
abbrev dktX3_isThrough_6 : List UInt8 := dkwX3_isThrough_6 ++ dktX3_isThrough_7
def dkwX3_isThrough_5 : List UInt8 := [42, 27, 8, 182, 0, 116, 42, 180, 0, 15, 27, 51, 154, 0, 34, 42, 89, 180, 0, 76, 4, 96]
abbrev dktX3_isThrough_5 : List UInt8 := dkwX3_isThrough_5 ++ dktX3_isThrough_6
def dkwX3_isThrough_4 : List UInt8 := [42, 89, 180, 0, 88, 4, 96, 181, 0, 88, 42, 42, 180, 0, 67, 6, 182, 0, 116, 42, 27, 181, 0, 67]
abbrev dktX3_isThrough_4 : List UInt8 := dkwX3_isThrough_4 ++ dktX3_isThrough_5
def dkwX3_isThrough_3 : List UInt8 := [42, 16, 254, 181, 0, 67, 177, 42, 180, 0, 67, 16, 254, 159, 0, 30, 42, 180, 0, 67, 27, 159, 0, 22]
abbrev dktX3_isThrough_3 : List UInt8 := dkwX3_isThrough_3 ++ dktX3_isThrough_4
def dkwX3_isThrough_2 : List UInt8 := [181, 0, 70, 42, 3, 181, 0, 73, 27, 16, 254, 160, 0, 20, 42, 89, 180, 0, 82, 4, 96, 181, 0, 82]
abbrev dktX3_isThrough_2 : List UInt8 := dkwX3_isThrough_2 ++ dktX3_isThrough_3
def dkwX3_isThrough_1 : List UInt8 := [181, 0, 79, 42, 89, 180, 0, 85, 42, 180, 0, 161, 96, 181, 0, 85, 42, 27, 182, 0, 225, 42, 16, 254]
abbrev dktX3_isThrough_1 : List UInt8 := dkwX3_isThrough_1 ++ dktX3_isThrough_2
def dkwX3_isThrough_0 : List UInt8 := [42, 42, 180, 0, 73, 187, 0, 218, 89, 42, 183, 0, 220, 182, 0, 221, 60, 42, 89, 180, 0, 79, 4, 96]
abbrev dktX3_isThrough_0 : List UInt8 := dkwX3_isThrough_0 ++ dktX3_isThrough_1
theorem dksX3_isThrough_0 : cX3_isThrough.data.toList.drop 0 = dktX3_isThrough_0 := by decide +kernel
theorem dksX3_isThrough_1 : cX3_isThrough.data.toList.drop 24 = dktX3_isThrough_1 := dk_seg dksX3_isThrough_0 24 rfl rfl
theorem dksX3_isThrough_2 : cX3_isThrough.data.toList.drop 48 = dktX3_isThrough_2 := dk_seg dksX3_isThrough_1 24 rfl rfl
theorem dksX3_isThrough_3 : cX3_isThrough.data.toList.drop 72 = dktX3_isThrough_3 := dk_seg dksX3_isThrough_2 24 rfl rfl
theorem dksX3_isThrough_4 : cX3_isThrough.data.toList.drop 96 = dktX3_isThrough_4 := dk_seg dksX3_isThrough_3 24 rfl rfl
theorem dksX3_isThrough_5 : cX3_isThrough.data.toList.drop 120 = dktX3_isThrough_5 := dk_seg dksX3_isThrough_4 24 rfl rfl
theorem dksX3_isThrough_6 : cX3_isThrough.data.toList.drop 142 = dktX3_isThrough_6 := dk_seg dksX3_isThrough_5 22 rfl rfl
theorem dksX3_isThrough_7 : cX3_isThrough.data.toList.drop 166 = dktX3_isThrough_7 := dk_seg dksX3_isThrough_6 24 rfl rfl
theorem dX3_isThrough_0 : decode cX3_isThrough 0 = .ok (.aload_n 0, 1) := dk_42 (dk_at dksX3_isThrough_0 0 rfl rfl)
theorem dX3_isThrough_1 : decode cX3_isThrough 1 = .ok (.aload_n 0, 1) := dk_42 (dk_at dksX3_isThrough_0 1 rfl rfl)
theorem dX3_isThrough_2 : decode cX3_isThrough 2 = .ok (.getfield 73, 3) := dk_180 0 73 (dk_at dksX3_isThrough_0 2 rfl rfl)
theorem dX3_isThrough_5 : decode cX3_isThrough 5 = .ok (.new 218, 3) := dk_187 0 218 (dk_at dksX3_isThrough_0 5 rfl rfl)
theorem dX3_isThrough_8 : decode cX3_isThrough 8 = .ok (.dup, 1) := dk_89 (dk_at dksX3_isThrough_0 8 rfl rfl)
theorem dX3_isThrough_9 : decode cX3_isThrough 9 = .ok (.aload_n 0, 1) := dk_42 (dk_at dksX3_isThrough_0 9 rfl rfl)
theorem dX3_isThrough_10 : decode cX3_isThrough 10 = .ok (.invokespecial 220, 3) := dk_183 0 220 (dk_at dksX3_isThrough_0 10 rfl rfl)
theorem dX3_isThrough_13 : decode cX3_isThrough 13 = .ok (.invokevirtual 221, 3) := dk_182 0 221 (dk_at dksX3_isThrough_0 13 rfl rfl)
theorem dX3_isThrough_16 : decode cX3_isThrough 16 = .ok (.istore_n 1, 1) := dk_60 (dk_at dksX3_isThrough_0 16 rfl rfl)
theorem dX3_isThrough_17 : decode cX3_isThrough 17 = .ok (.aload_n 0, 1) := dk_42 (dk_at dksX3_isThrough_0 17 rfl rfl)
theorem dX3_isThrough_18 : decode cX3_isThrough 18 = .ok (.dup, 1) := dk_89 (dk_at dksX3_isThrough_0 18 rfl rfl)
theorem dX3_isThrough_19 : decode cX3_isThrough 19 = .ok (.getfield 79, 3) := dk_180 0 79 (dk_at dksX3_isThrough_0 19 rfl rfl)
theorem dX3_isThrough_22 : decode cX3_isThrough 22 = .ok (.iconst 1, 1) := dk_4 (dk_at dksX3_isThrough_0 22 rfl rfl)
theorem dX3_isThrough_23 : decode cX3_isThrough 23 = .ok (.iadd, 1) := dk_96 (dk_at dksX3_isThrough_0 23 rfl rfl)
theorem dX3_isThrough_24 : decode cX3_isThrough 24 = .ok (.putfield 79, 3) := dk_181 0 79 (dk_at dksX3_isThrough_1 0 rfl rfl)
theorem dX3_isThrough_27 : decode cX3_isThrough 27 = .ok (.aload_n 0, 1) := dk_42 (dk_at dksX3_isThrough_1 3 rfl rfl)
theorem dX3_isThrough_28 : decode cX3_isThrough 28 = .ok (.dup, 1) := dk_89 (dk_at dksX3_isThrough_1 4 rfl rfl)
theorem dX3_isThrough_29 : decode cX3_isThrough 29 = .ok (.getfield 85, 3) := dk_180 0 85 (dk_at dksX3_isThrough_1 5 rfl rfl)
theorem dX3_isThrough_32 : decode cX3_isThrough 32 = .ok (.aload_n 0, 1) := dk_42 (dk_at dksX3_isThrough_1 8 rfl rfl)
theorem dX3_isThrough_33 : decode cX3_isThrough 33 = .ok (.getfield 161, 3) := dk_180 0 161 (dk_at dksX3_isThrough_1 9 rfl rfl)
theorem dX3_isThrough_36 : decode cX3_isThrough 36 = .ok (.iadd, 1) := dk_96 (dk_at dksX3_isThrough_1 12 rfl rfl)
theorem dX3_isThrough_37 : decode cX3_isThrough 37 = .ok (.putfield 85, 3) := dk_181 0 85 (dk_at dksX3_isThrough_1 13 rfl rfl)
theorem dX3_isThrough_40 : decode cX3_isThrough 40 = .ok (.aload_n 0, 1) := dk_42 (dk_at dksX3_isThrough_1 16 rfl rfl)
theorem dX3_isThrough_41 : decode cX3_isThrough 41 = .ok (.iload_n 1, 1) := dk_27 (dk_at dksX3_isThrough_1 17 rfl rfl)
theorem dX3_isThrough_42 : decode cX3_isThrough 42 = .ok (.invokevirtual 225, 3) := dk_182 0 225 (dk_at dksX3_isThrough_1 18 rfl rfl)
theorem dX3_isThrough_45 : decode cX3_isThrough 45 = .ok (.aload_n 0, 1) := dk_42 (dk_at dksX3_isThrough_1 21 rfl rfl)
theorem dX3_isThrough_46 : decode cX3_isThrough 46 = .ok (.bipush (-2), 2) := dk_16 254 (dk_at dksX3_isThrough_1 22 rfl rfl)
theorem dX3_isThrough_48 : decode cX3_isThrough 48 = .ok (.putfield 70, 3) := dk_181 0 70 (dk_at dksX3_isThrough_2 0 rfl rfl)
theorem dX3_isThrough_51 : decode cX3_isThrough 51 = .ok (.aload_n 0, 1) := dk_42 (dk_at dksX3_isThrough_2 3 rfl rfl)
theorem dX3_isThrough_52 : decode cX3_isThrough 52 = .ok (.iconst 0, 1) := dk_3 (dk_at dksX3_isThrough_2 4 rfl rfl)
theorem dX3_isThrough_53 : decode cX3_isThrough 53 = .ok (.putfield 73, 3) := dk_181 0 73 (dk_at dksX3_isThrough_2 5 rfl rfl)
theorem dX3_isThrough_56 : decode cX3_isThrough 56 = .ok (.iload_n 1, 1) := dk_27 (dk_at dksX3_isThrough_2 8 rfl rfl)
theorem dX3_isThrough_57 : decode cX3_isThrough 57 = .ok (.bipush (-2), 2) := dk_16 254 (dk_at dksX3_isThrough_2 9 rfl rfl)
theorem dX3_isThrough_59 : decode cX3_isThrough 59 = .ok (.if_icmp .ne 20, 3) := dk_160 0 20 (dk_at dksX3_isThrough_2 11 rfl rfl)
theorem dX3_isThrough_62 : decode cX3_isThrough 62 = .ok (.aload_n 0, 1) := dk_42 (dk_at dksX3_isThrough_2 14 rfl rfl)
theorem dX3_isThrough_63 : decode cX3_isThrough 63 = .ok (.dup, 1) := dk_89 (dk_at dksX3_isThrough_2 15 rfl rfl)
theorem dX3_isThrough_64 : decode cX3_isThrough 64 = .ok (.getfield 82, 3) := dk_180 0 82 (dk_at dksX3_isThrough_2 16 rfl rfl)
theorem dX3_isThrough_67 : decode cX3_isThrough 67 = .ok (.iconst 1, 1) := dk_4 (dk_at dksX3_isThrough_2 19 rfl rfl)
theorem dX3_isThrough_68 : decode cX3_isThrough 68 = .ok (.iadd, 1) := dk_96 (dk_at dksX3_isThrough_2 20 rfl rfl)
theorem dX3_isThrough_69 : decode cX3_isThrough 69 = .ok (.putfield 82, 3) := dk_181 0 82 (dk_at dksX3_isThrough_2 21 rfl rfl)
theorem dX3_isThrough_72 : decode cX3_isThrough 72 = .ok (.aload_n 0, 1) := dk_42 (dk_at dksX3_isThrough_3 0 rfl rfl)
theorem dX3_isThrough_73 : decode cX3_isThrough 73 = .ok (.bipush (-2), 2) := dk_16 254 (dk_at dksX3_isThrough_3 1 rfl rfl)
theorem dX3_isThrough_75 : decode cX3_isThrough 75 = .ok (.putfield 67, 3) := dk_181 0 67 (dk_at dksX3_isThrough_3 3 rfl rfl)
theorem dX3_isThrough_78 : decode cX3_isThrough 78 = .ok (.return_, 1) := dk_177 (dk_at dksX3_isThrough_3 6 rfl rfl)
theorem dX3_isThrough_79 : decode cX3_isThrough 79 = .ok (.aload_n 0, 1) := dk_42 (dk_at dksX3_isThrough_3 7 rfl rfl)
theorem dX3_isThrough_80 : decode cX3_isThrough 80 = .ok (.getfield 67, 3) := dk_180 0 67 (dk_at dksX3_isThrough_3 8 rfl rfl)
theorem dX3_isThrough_83 : decode cX3_isThrough 83 = .ok (.bipush (-2), 2) := dk_16 254 (dk_at dksX3_isThrough_3 11 rfl rfl)
theorem dX3_isThrough_85 : decode cX3_isThrough 85 = .ok (.if_icmp .eq 30, 3) := dk_159 0 30 (dk_at dksX3_isThrough_3 13 rfl rfl)
theorem dX3_isThrough_88 : decode cX3_isThrough 88 = .ok (.aload_n 0, 1) := dk_42 (dk_at dksX3_isThrough_3 16 rfl rfl)
theorem dX3_isThrough_89 : decode cX3_isThrough 89 = .ok (.getfield 67, 3) := dk_180 0 67 (dk_at dksX3_isThrough_3 17 rfl rfl)
theorem dX3_isThrough_92 : decode cX3_isThrough 92 = .ok (.iload_n 1, 1) := dk_27 (dk_at dksX3_isThrough_3 20 rfl rfl)
theorem dX3_isThrough_93 : decode cX3_isThrough 93 = .ok (.if_icmp .eq 22, 3) := dk_159 0 22 (dk_at dksX3_isThrough_3 21 rfl rfl)
theorem dX3_isThrough_96 : decode cX3_isThrough 96 = .ok (.aload_n 0, 1) := dk_42 (dk_at dksX3_isThrough_4 0 rfl rfl)
theorem dX3_isThrough_97 : decode cX3_isThrough 97 = .ok (.dup, 1) := dk_89 (dk_at dksX3_isThrough_4 1 rfl rfl)
theorem dX3_isThrough_98 : decode cX3_isThrough 98 = .ok (.getfield 88, 3) := dk_180 0 88 (dk_at dksX3_isThrough_4 2 rfl rfl)
theorem dX3_isThrough_101 : decode cX3_isThrough 101 = .ok (.iconst 1, 1) := dk_4 (dk_at dksX3_isThrough_4 5 rfl rfl)
theorem dX3_isThrough_102 : decode cX3_isThrough 102 = .ok (.iadd, 1) := dk_96 (dk_at dksX3_isThrough_4 6 rfl rfl)
theorem dX3_isThrough_103 : decode cX3_isThrough 103 = .ok (.putfield 88, 3) := dk_181 0 88 (dk_at dksX3_isThrough_4 7 rfl rfl)
theorem dX3_isThrough_106 : decode cX3_isThrough 106 = .ok (.aload_n 0, 1) := dk_42 (dk_at dksX3_isThrough_4 10 rfl rfl)
theorem dX3_isThrough_107 : decode cX3_isThrough 107 = .ok (.aload_n 0, 1) := dk_42 (dk_at dksX3_isThrough_4 11 rfl rfl)
theorem dX3_isThrough_108 : decode cX3_isThrough 108 = .ok (.getfield 67, 3) := dk_180 0 67 (dk_at dksX3_isThrough_4 12 rfl rfl)
theorem dX3_isThrough_111 : decode cX3_isThrough 111 = .ok (.iconst 3, 1) := dk_6 (dk_at dksX3_isThrough_4 15 rfl rfl)
theorem dX3_isThrough_112 : decode cX3_isThrough 112 = .ok (.invokevirtual 116, 3) := dk_182 0 116 (dk_at dksX3_isThrough_4 16 rfl rfl)
theorem dX3_isThrough_115 : decode cX3_isThrough 115 = .ok (.aload_n 0, 1) := dk_42 (dk_at dksX3_isThrough_4 19 rfl rfl)
theorem dX3_isThrough_116 : decode cX3_isThrough 116 = .ok (.iload_n 1, 1) := dk_27 (dk_at dksX3_isThrough_4 20 rfl rfl)
theorem dX3_isThrough_117 : decode cX3_isThrough 117 = .ok (.putfield 67, 3) := dk_181 0 67 (dk_at dksX3_isThrough_4 21 rfl rfl)
theorem dX3_isThrough_120 : decode cX3_isThrough 120 = .ok (.aload_n 0, 1) := dk_42 (dk_at dksX3_isThrough_5 0 rfl rfl)
theorem dX3_isThrough_121 : decode cX3_isThrough 121 = .ok (.iload_n 1, 1) := dk_27 (dk_at dksX3_isThrough_5 1 rfl rfl)
theorem dX3_isThrough_122 : decode cX3_isThrough 122 = .ok (.iconst 5, 1) := dk_8 (dk_at dksX3_isThrough_5 2 rfl rfl)
theorem dX3_isThrough_123 : decode cX3_isThrough 123 = .ok (.invokevirtual 116, 3) := dk_182 0 116 (dk_at dksX3_isThrough_5 3 rfl rfl)
theorem dX3_isThrough_126 : decode cX3_isThrough 126 = .ok (.aload_n 0, 1) := dk_42 (dk_at dksX3_isThrough_5 6 rfl rfl)
theorem dX3_isThrough_127 : decode cX3_isThrough 127 = .ok (.getfield 15, 3) := dk_180 0 15 (dk_at dksX3_isThrough_5 7 rfl rfl)
theorem dX3_isThrough_130 : decode cX3_isThrough 130 = .ok (.iload_n 1, 1) := dk_27 (dk_at dksX3_isThrough_5 10 rfl rfl)
theorem dX3_isThrough_131 : decode cX3_isThrough 131 = .ok (.baload, 1) := dk_51 (dk_at dksX3_isThrough_5 11 rfl rfl)
theorem dX3_isThrough_132 : decode cX3_isThrough 132 = .ok (.ifCond .ne 34, 3) := dk_154 0 34 (dk_at dksX3_isThrough_5 12 rfl rfl)
theorem dX3_isThrough_135 : decode cX3_isThrough 135 = .ok (.aload_n 0, 1) := dk_42 (dk_at dksX3_isThrough_5 15 rfl rfl)
theorem dX3_isThrough_136 : decode cX3_isThrough 136 = .ok (.dup, 1) := dk_89 (dk_at dksX3_isThrough_5 16 rfl rfl)
theorem dX3_isThrough_137 : decode cX3_isThrough 137 = .ok (.getfield 76, 3) := dk_180 0 76 (dk_at dksX3_isThrough_5 17 rfl rfl)
theorem dX3_isThrough_140 : decode cX3_isThrough 140 = .ok (.iconst 1, 1) := dk_4 (dk_at dksX3_isThrough_5 20 rfl rfl)
theorem dX3_isThrough_141 : decode cX3_isThrough 141 = .ok (.iadd, 1) := dk_96 (dk_at dksX3_isThrough_5 21 rfl rfl)
theorem dX3_isThrough_142 : decode cX3_isThrough 142 = .ok (.putfield 76, 3) := dk_181 0 76 (dk_at dksX3_isThrough_6 0 rfl rfl)
theorem dX3_isThrough_145 : decode cX3_isThrough 145 = .ok (.iconst 0, 1) := dk_3 (dk_at dksX3_isThrough_6 3 rfl rfl)
theorem dX3_isThrough_146 : decode cX3_isThrough 146 = .ok (.istore_n 2, 1) := dk_61 (dk_at dksX3_isThrough_6 4 rfl rfl)
theorem dX3_isThrough_147 : decode cX3_isThrough 147 = .ok (.iload_n 2, 1) := dk_28 (dk_at dksX3_isThrough_6 5 rfl rfl)
theorem dX3_isThrough_148 : decode cX3_isThrough 148 = .ok (.bipush 6, 2) := dk_16 6 (dk_at dksX3_isThrough_6 6 rfl rfl)
theorem dX3_isThrough_150 : decode cX3_isThrough 150 = .ok (.if_icmp .ge 16, 3) := dk_162 0 16 (dk_at dksX3_isThrough_6 8 rfl rfl)
theorem dX3_isThrough_153 : decode cX3_isThrough 153 = .ok (.aload_n 0, 1) := dk_42 (dk_at dksX3_isThrough_6 11 rfl rfl)
theorem dX3_isThrough_154 : decode cX3_isThrough 154 = .ok (.getfield 15, 3) := dk_180 0 15 (dk_at dksX3_isThrough_6 12 rfl rfl)
theorem dX3_isThrough_157 : decode cX3_isThrough 157 = .ok (.iload_n 2, 1) := dk_28 (dk_at dksX3_isThrough_6 15 rfl rfl)
theorem dX3_isThrough_158 : decode cX3_isThrough 158 = .ok (.iconst 1, 1) := dk_4 (dk_at dksX3_isThrough_6 16 rfl rfl)
theorem dX3_isThrough_159 : decode cX3_isThrough 159 = .ok (.bastore, 1) := dk_84 (dk_at dksX3_isThrough_6 17 rfl rfl)
theorem dX3_isThrough_160 : decode cX3_isThrough 160 = .ok (.iinc 2 1, 3) := dk_132 2 1 (dk_at dksX3_isThrough_6 18 rfl rfl)
theorem dX3_isThrough_163 : decode cX3_isThrough 163 = .ok (.goto (-16), 3) := dk_167 255 240 (dk_at dksX3_isThrough_6 21 rfl rfl)
theorem dX3_isThrough_166 : decode cX3_isThrough 166 = .ok (.aload_n 0, 1) := dk_42 (dk_at dksX3_isThrough_7 0 rfl rfl)
theorem dX3_isThrough_167 : decode cX3_isThrough 167 = .ok (.getfield 15, 3) := dk_180 0 15 (dk_at dksX3_isThrough_7 1 rfl rfl)
theorem dX3_isThrough_170 : decode cX3_isThrough 170 = .ok (.iload_n 1, 1) := dk_27 (dk_at dksX3_isThrough_7 4 rfl rfl)
theorem dX3_isThrough_171 : decode cX3_isThrough 171 = .ok (.iconst 0, 1) := dk_3 (dk_at dksX3_isThrough_7 5 rfl rfl)
theorem dX3_isThrough_172 : decode cX3_isThrough 172 = .ok (.bastore, 1) := dk_84 (dk_at dksX3_isThrough_7 6 rfl rfl)
theorem dX3_isThrough_173 : decode cX3_isThrough 173 = .ok (.return_, 1) := dk_177 (dk_at dksX3_isThrough_7 7 rfl rfl)
abbrev cX3_notes : ByteArray := prog_13_method_11_code
def yX3_notes : MethodName := ⟨RX3, "notes", "(I)V"⟩
def dkwX3_notes_2 : List UInt8 := [42, 180, 0, 161, 183, 0, 204, 182, 0, 107, 87, 177]
abbrev dktX3_notes_2 : List UInt8 := dkwX3_notes_2 ++ []
def dkwX3_notes_1 : List UInt8 := [180, 0, 43, 187, 0, 105, 89, 42, 180, 0, 57, 42, 180, 0, 73, 42, 180, 0, 181, 42, 180, 0, 164, 27]
abbrev dktX3_notes_1 : List UInt8 := dkwX3_notes_1 ++ dktX3_notes_2
def dkwX3_notes_0 : List UInt8 := [42, 180, 0, 43, 182, 0, 97, 16, 16, 160, 0, 12, 42, 180, 0, 43, 3, 182, 0, 201, 87, 42]
abbrev dktX3_notes_0 : List UInt8 := dkwX3_notes_0 ++ dktX3_notes_1
theorem dksX3_notes_0 : cX3_notes.data.toList.drop 0 = dktX3_notes_0 := by decide +kernel
theorem dksX3_notes_1 : cX3_notes.data.toList.drop 22 = dktX3_notes_1 := dk_seg dksX3_notes_0 22 rfl rfl
theorem dksX3_notes_2 : cX3_notes.data.toList.drop 46 = dktX3_notes_2 := dk_seg dksX3_notes_1 24 rfl rfl
theorem dX3_notes_0 : decode cX3_notes 0 = .ok (.aload_n 0, 1) := dk_42 (dk_at dksX3_notes_0 0 rfl rfl)
theorem dX3_notes_1 : decode cX3_notes 1 = .ok (.getfield 43, 3) := dk_180 0 43 (dk_at dksX3_notes_0 1 rfl rfl)
theorem dX3_notes_4 : decode cX3_notes 4 = .ok (.invokevirtual 97, 3) := dk_182 0 97 (dk_at dksX3_notes_0 4 rfl rfl)
theorem dX3_notes_7 : decode cX3_notes 7 = .ok (.bipush 16, 2) := dk_16 16 (dk_at dksX3_notes_0 7 rfl rfl)
theorem dX3_notes_9 : decode cX3_notes 9 = .ok (.if_icmp .ne 12, 3) := dk_160 0 12 (dk_at dksX3_notes_0 9 rfl rfl)
theorem dX3_notes_12 : decode cX3_notes 12 = .ok (.aload_n 0, 1) := dk_42 (dk_at dksX3_notes_0 12 rfl rfl)
theorem dX3_notes_13 : decode cX3_notes 13 = .ok (.getfield 43, 3) := dk_180 0 43 (dk_at dksX3_notes_0 13 rfl rfl)
theorem dX3_notes_16 : decode cX3_notes 16 = .ok (.iconst 0, 1) := dk_3 (dk_at dksX3_notes_0 16 rfl rfl)
theorem dX3_notes_17 : decode cX3_notes 17 = .ok (.invokevirtual 201, 3) := dk_182 0 201 (dk_at dksX3_notes_0 17 rfl rfl)
theorem dX3_notes_20 : decode cX3_notes 20 = .ok (.pop, 1) := dk_87 (dk_at dksX3_notes_0 20 rfl rfl)
theorem dX3_notes_21 : decode cX3_notes 21 = .ok (.aload_n 0, 1) := dk_42 (dk_at dksX3_notes_0 21 rfl rfl)
theorem dX3_notes_22 : decode cX3_notes 22 = .ok (.getfield 43, 3) := dk_180 0 43 (dk_at dksX3_notes_1 0 rfl rfl)
theorem dX3_notes_25 : decode cX3_notes 25 = .ok (.new 105, 3) := dk_187 0 105 (dk_at dksX3_notes_1 3 rfl rfl)
theorem dX3_notes_28 : decode cX3_notes 28 = .ok (.dup, 1) := dk_89 (dk_at dksX3_notes_1 6 rfl rfl)
theorem dX3_notes_29 : decode cX3_notes 29 = .ok (.aload_n 0, 1) := dk_42 (dk_at dksX3_notes_1 7 rfl rfl)
theorem dX3_notes_30 : decode cX3_notes 30 = .ok (.getfield 57, 3) := dk_180 0 57 (dk_at dksX3_notes_1 8 rfl rfl)
theorem dX3_notes_33 : decode cX3_notes 33 = .ok (.aload_n 0, 1) := dk_42 (dk_at dksX3_notes_1 11 rfl rfl)
theorem dX3_notes_34 : decode cX3_notes 34 = .ok (.getfield 73, 3) := dk_180 0 73 (dk_at dksX3_notes_1 12 rfl rfl)
theorem dX3_notes_37 : decode cX3_notes 37 = .ok (.aload_n 0, 1) := dk_42 (dk_at dksX3_notes_1 15 rfl rfl)
theorem dX3_notes_38 : decode cX3_notes 38 = .ok (.getfield 181, 3) := dk_180 0 181 (dk_at dksX3_notes_1 16 rfl rfl)
theorem dX3_notes_41 : decode cX3_notes 41 = .ok (.aload_n 0, 1) := dk_42 (dk_at dksX3_notes_1 19 rfl rfl)
theorem dX3_notes_42 : decode cX3_notes 42 = .ok (.getfield 164, 3) := dk_180 0 164 (dk_at dksX3_notes_1 20 rfl rfl)
theorem dX3_notes_45 : decode cX3_notes 45 = .ok (.iload_n 1, 1) := dk_27 (dk_at dksX3_notes_1 23 rfl rfl)
theorem dX3_notes_46 : decode cX3_notes 46 = .ok (.aload_n 0, 1) := dk_42 (dk_at dksX3_notes_2 0 rfl rfl)
theorem dX3_notes_47 : decode cX3_notes 47 = .ok (.getfield 161, 3) := dk_180 0 161 (dk_at dksX3_notes_2 1 rfl rfl)
theorem dX3_notes_50 : decode cX3_notes 50 = .ok (.invokespecial 204, 3) := dk_183 0 204 (dk_at dksX3_notes_2 4 rfl rfl)
theorem dX3_notes_53 : decode cX3_notes 53 = .ok (.invokevirtual 107, 3) := dk_182 0 107 (dk_at dksX3_notes_2 7 rfl rfl)
theorem dX3_notes_56 : decode cX3_notes 56 = .ok (.pop, 1) := dk_87 (dk_at dksX3_notes_2 10 rfl rfl)
theorem dX3_notes_57 : decode cX3_notes 57 = .ok (.return_, 1) := dk_177 (dk_at dksX3_notes_2 11 rfl rfl)
abbrev cX3_isMaster : ByteArray := prog_13_method_15_code
def yX3_isMaster : MethodName := ⟨RX3, "isMaster", "()V"⟩
def dkwX3_isMaster_3 : List UInt8 := [46, 42, 180, 0, 57, 42, 180, 0, 23, 42, 180, 0, 61, 46, 100, 184, 0, 228, 79, 177]
abbrev dktX3_isMaster_3 : List UInt8 := dkwX3_isMaster_3 ++ []
def dkwX3_isMaster_2 : List UInt8 := [3, 182, 0, 116, 16, 6, 42, 180, 0, 61, 104, 7, 96, 60, 42, 180, 0, 35, 27, 42, 180, 0, 35, 27]
abbrev dktX3_isMaster_2 : List UInt8 := dkwX3_isMaster_2 ++ dktX3_isMaster_3
def dkwX3_isMaster_1 : List UInt8 := [181, 0, 64, 42, 180, 0, 19, 42, 180, 0, 67, 3, 79, 42, 16, 254, 181, 0, 67, 42, 42, 180, 0, 61]
abbrev dktX3_isMaster_1 : List UInt8 := dkwX3_isMaster_1 ++ dktX3_isMaster_2
def dkwX3_isMaster_0 : List UInt8 := [42, 42, 180, 0, 67, 181, 0, 61, 42, 42, 180, 0, 57, 42, 180, 0, 19, 42, 180, 0, 67, 46, 96]
abbrev dktX3_isMaster_0 : List UInt8 := dkwX3_isMaster_0 ++ dktX3_isMaster_1
theorem dksX3_isMaster_0 : cX3_isMaster.data.toList.drop 0 = dktX3_isMaster_0 := by decide +kernel
theorem dksX3_isMaster_1 : cX3_isMaster.data.toList.drop 23 = dktX3_isMaster_1 := dk_seg dksX3_isMaster_0 23 rfl rfl
theorem dksX3_isMaster_2 : cX3_isMaster.data.toList.drop 47 = dktX3_isMaster_2 := dk_seg dksX3_isMaster_1 24 rfl rfl
theorem dksX3_isMaster_3 : cX3_isMaster.data.toList.drop 71 = dktX3_isMaster_3 := dk_seg dksX3_isMaster_2 24 rfl rfl
theorem dX3_isMaster_0 : decode cX3_isMaster 0 = .ok (.aload_n 0, 1) := dk_42 (dk_at dksX3_isMaster_0 0 rfl rfl)
theorem dX3_isMaster_1 : decode cX3_isMaster 1 = .ok (.aload_n 0, 1) := dk_42 (dk_at dksX3_isMaster_0 1 rfl rfl)
theorem dX3_isMaster_2 : decode cX3_isMaster 2 = .ok (.getfield 67, 3) := dk_180 0 67 (dk_at dksX3_isMaster_0 2 rfl rfl)
theorem dX3_isMaster_5 : decode cX3_isMaster 5 = .ok (.putfield 61, 3) := dk_181 0 61 (dk_at dksX3_isMaster_0 5 rfl rfl)
theorem dX3_isMaster_8 : decode cX3_isMaster 8 = .ok (.aload_n 0, 1) := dk_42 (dk_at dksX3_isMaster_0 8 rfl rfl)
theorem dX3_isMaster_9 : decode cX3_isMaster 9 = .ok (.aload_n 0, 1) := dk_42 (dk_at dksX3_isMaster_0 9 rfl rfl)
theorem dX3_isMaster_10 : decode cX3_isMaster 10 = .ok (.getfield 57, 3) := dk_180 0 57 (dk_at dksX3_isMaster_0 10 rfl rfl)
theorem dX3_isMaster_13 : decode cX3_isMaster 13 = .ok (.aload_n 0, 1) := dk_42 (dk_at dksX3_isMaster_0 13 rfl rfl)
theorem dX3_isMaster_14 : decode cX3_isMaster 14 = .ok (.getfield 19, 3) := dk_180 0 19 (dk_at dksX3_isMaster_0 14 rfl rfl)
theorem dX3_isMaster_17 : decode cX3_isMaster 17 = .ok (.aload_n 0, 1) := dk_42 (dk_at dksX3_isMaster_0 17 rfl rfl)
theorem dX3_isMaster_18 : decode cX3_isMaster 18 = .ok (.getfield 67, 3) := dk_180 0 67 (dk_at dksX3_isMaster_0 18 rfl rfl)
theorem dX3_isMaster_21 : decode cX3_isMaster 21 = .ok (.iaload, 1) := dk_46 (dk_at dksX3_isMaster_0 21 rfl rfl)
theorem dX3_isMaster_22 : decode cX3_isMaster 22 = .ok (.iadd, 1) := dk_96 (dk_at dksX3_isMaster_0 22 rfl rfl)
theorem dX3_isMaster_23 : decode cX3_isMaster 23 = .ok (.putfield 64, 3) := dk_181 0 64 (dk_at dksX3_isMaster_1 0 rfl rfl)
theorem dX3_isMaster_26 : decode cX3_isMaster 26 = .ok (.aload_n 0, 1) := dk_42 (dk_at dksX3_isMaster_1 3 rfl rfl)
theorem dX3_isMaster_27 : decode cX3_isMaster 27 = .ok (.getfield 19, 3) := dk_180 0 19 (dk_at dksX3_isMaster_1 4 rfl rfl)
theorem dX3_isMaster_30 : decode cX3_isMaster 30 = .ok (.aload_n 0, 1) := dk_42 (dk_at dksX3_isMaster_1 7 rfl rfl)
theorem dX3_isMaster_31 : decode cX3_isMaster 31 = .ok (.getfield 67, 3) := dk_180 0 67 (dk_at dksX3_isMaster_1 8 rfl rfl)
theorem dX3_isMaster_34 : decode cX3_isMaster 34 = .ok (.iconst 0, 1) := dk_3 (dk_at dksX3_isMaster_1 11 rfl rfl)
theorem dX3_isMaster_35 : decode cX3_isMaster 35 = .ok (.iastore, 1) := dk_79 (dk_at dksX3_isMaster_1 12 rfl rfl)
theorem dX3_isMaster_36 : decode cX3_isMaster 36 = .ok (.aload_n 0, 1) := dk_42 (dk_at dksX3_isMaster_1 13 rfl rfl)
theorem dX3_isMaster_37 : decode cX3_isMaster 37 = .ok (.bipush (-2), 2) := dk_16 254 (dk_at dksX3_isMaster_1 14 rfl rfl)
theorem dX3_isMaster_39 : decode cX3_isMaster 39 = .ok (.putfield 67, 3) := dk_181 0 67 (dk_at dksX3_isMaster_1 16 rfl rfl)
theorem dX3_isMaster_42 : decode cX3_isMaster 42 = .ok (.aload_n 0, 1) := dk_42 (dk_at dksX3_isMaster_1 19 rfl rfl)
theorem dX3_isMaster_43 : decode cX3_isMaster 43 = .ok (.aload_n 0, 1) := dk_42 (dk_at dksX3_isMaster_1 20 rfl rfl)
theorem dX3_isMaster_44 : decode cX3_isMaster 44 = .ok (.getfield 61, 3) := dk_180 0 61 (dk_at dksX3_isMaster_1 21 rfl rfl)
theorem dX3_isMaster_47 : decode cX3_isMaster 47 = .ok (.iconst 0, 1) := dk_3 (dk_at dksX3_isMaster_2 0 rfl rfl)
theorem dX3_isMaster_48 : decode cX3_isMaster 48 = .ok (.invokevirtual 116, 3) := dk_182 0 116 (dk_at dksX3_isMaster_2 1 rfl rfl)
theorem dX3_isMaster_51 : decode cX3_isMaster 51 = .ok (.bipush 6, 2) := dk_16 6 (dk_at dksX3_isMaster_2 4 rfl rfl)
theorem dX3_isMaster_53 : decode cX3_isMaster 53 = .ok (.aload_n 0, 1) := dk_42 (dk_at dksX3_isMaster_2 6 rfl rfl)
theorem dX3_isMaster_54 : decode cX3_isMaster 54 = .ok (.getfield 61, 3) := dk_180 0 61 (dk_at dksX3_isMaster_2 7 rfl rfl)
theorem dX3_isMaster_57 : decode cX3_isMaster 57 = .ok (.imul, 1) := dk_104 (dk_at dksX3_isMaster_2 10 rfl rfl)
theorem dX3_isMaster_58 : decode cX3_isMaster 58 = .ok (.iconst 4, 1) := dk_7 (dk_at dksX3_isMaster_2 11 rfl rfl)
theorem dX3_isMaster_59 : decode cX3_isMaster 59 = .ok (.iadd, 1) := dk_96 (dk_at dksX3_isMaster_2 12 rfl rfl)
theorem dX3_isMaster_60 : decode cX3_isMaster 60 = .ok (.istore_n 1, 1) := dk_60 (dk_at dksX3_isMaster_2 13 rfl rfl)
theorem dX3_isMaster_61 : decode cX3_isMaster 61 = .ok (.aload_n 0, 1) := dk_42 (dk_at dksX3_isMaster_2 14 rfl rfl)
theorem dX3_isMaster_62 : decode cX3_isMaster 62 = .ok (.getfield 35, 3) := dk_180 0 35 (dk_at dksX3_isMaster_2 15 rfl rfl)
theorem dX3_isMaster_65 : decode cX3_isMaster 65 = .ok (.iload_n 1, 1) := dk_27 (dk_at dksX3_isMaster_2 18 rfl rfl)
theorem dX3_isMaster_66 : decode cX3_isMaster 66 = .ok (.aload_n 0, 1) := dk_42 (dk_at dksX3_isMaster_2 19 rfl rfl)
theorem dX3_isMaster_67 : decode cX3_isMaster 67 = .ok (.getfield 35, 3) := dk_180 0 35 (dk_at dksX3_isMaster_2 20 rfl rfl)
theorem dX3_isMaster_70 : decode cX3_isMaster 70 = .ok (.iload_n 1, 1) := dk_27 (dk_at dksX3_isMaster_2 23 rfl rfl)
theorem dX3_isMaster_71 : decode cX3_isMaster 71 = .ok (.iaload, 1) := dk_46 (dk_at dksX3_isMaster_3 0 rfl rfl)
theorem dX3_isMaster_72 : decode cX3_isMaster 72 = .ok (.aload_n 0, 1) := dk_42 (dk_at dksX3_isMaster_3 1 rfl rfl)
theorem dX3_isMaster_73 : decode cX3_isMaster 73 = .ok (.getfield 57, 3) := dk_180 0 57 (dk_at dksX3_isMaster_3 2 rfl rfl)
theorem dX3_isMaster_76 : decode cX3_isMaster 76 = .ok (.aload_n 0, 1) := dk_42 (dk_at dksX3_isMaster_3 5 rfl rfl)
theorem dX3_isMaster_77 : decode cX3_isMaster 77 = .ok (.getfield 23, 3) := dk_180 0 23 (dk_at dksX3_isMaster_3 6 rfl rfl)
theorem dX3_isMaster_80 : decode cX3_isMaster 80 = .ok (.aload_n 0, 1) := dk_42 (dk_at dksX3_isMaster_3 9 rfl rfl)
theorem dX3_isMaster_81 : decode cX3_isMaster 81 = .ok (.getfield 61, 3) := dk_180 0 61 (dk_at dksX3_isMaster_3 10 rfl rfl)
theorem dX3_isMaster_84 : decode cX3_isMaster 84 = .ok (.iaload, 1) := dk_46 (dk_at dksX3_isMaster_3 13 rfl rfl)
theorem dX3_isMaster_85 : decode cX3_isMaster 85 = .ok (.isub, 1) := dk_100 (dk_at dksX3_isMaster_3 14 rfl rfl)
theorem dX3_isMaster_86 : decode cX3_isMaster 86 = .ok (.invokestatic 228, 3) := dk_184 0 228 (dk_at dksX3_isMaster_3 15 rfl rfl)
theorem dX3_isMaster_89 : decode cX3_isMaster 89 = .ok (.iastore, 1) := dk_79 (dk_at dksX3_isMaster_3 18 rfl rfl)
theorem dX3_isMaster_90 : decode cX3_isMaster 90 = .ok (.return_, 1) := dk_177 (dk_at dksX3_isMaster_3 19 rfl rfl)
abbrev cX3_isPressed : ByteArray := prog_13_method_16_code
def yX3_isPressed : MethodName := ⟨RX3, "isPressed", "()Z"⟩
def dkwX3_isPressed_2 : List UInt8 := [42, 180, 0, 67, 182, 0, 211, 42, 182, 0, 234, 164, 0, 5, 4, 172, 132, 1, 1, 167, 255, 192, 3, 172]
abbrev dktX3_isPressed_2 : List UInt8 := dkwX3_isPressed_2 ++ []
def dkwX3_isPressed_1 : List UInt8 := [180, 0, 67, 16, 254, 159, 0, 33, 42, 180, 0, 50, 27, 182, 0, 211, 42, 182, 0, 234, 42, 180, 0, 50]
abbrev dktX3_isPressed_1 : List UInt8 := dkwX3_isPressed_1 ++ dktX3_isPressed_2
def dkwX3_isPressed_0 : List UInt8 := [3, 60, 27, 42, 180, 0, 50, 182, 0, 111, 162, 0, 59, 42, 180, 0, 19, 27, 46, 158, 0, 44, 42]
abbrev dktX3_isPressed_0 : List UInt8 := dkwX3_isPressed_0 ++ dktX3_isPressed_1
theorem dksX3_isPressed_0 : cX3_isPressed.data.toList.drop 0 = dktX3_isPressed_0 := by decide +kernel
theorem dksX3_isPressed_1 : cX3_isPressed.data.toList.drop 23 = dktX3_isPressed_1 := dk_seg dksX3_isPressed_0 23 rfl rfl
theorem dksX3_isPressed_2 : cX3_isPressed.data.toList.drop 47 = dktX3_isPressed_2 := dk_seg dksX3_isPressed_1 24 rfl rfl
theorem dX3_isPressed_0 : decode cX3_isPressed 0 = .ok (.iconst 0, 1) := dk_3 (dk_at dksX3_isPressed_0 0 rfl rfl)
theorem dX3_isPressed_1 : decode cX3_isPressed 1 = .ok (.istore_n 1, 1) := dk_60 (dk_at dksX3_isPressed_0 1 rfl rfl)
theorem dX3_isPressed_2 : decode cX3_isPressed 2 = .ok (.iload_n 1, 1) := dk_27 (dk_at dksX3_isPressed_0 2 rfl rfl)
theorem dX3_isPressed_3 : decode cX3_isPressed 3 = .ok (.aload_n 0, 1) := dk_42 (dk_at dksX3_isPressed_0 3 rfl rfl)
theorem dX3_isPressed_4 : decode cX3_isPressed 4 = .ok (.getfield 50, 3) := dk_180 0 50 (dk_at dksX3_isPressed_0 4 rfl rfl)
theorem dX3_isPressed_7 : decode cX3_isPressed 7 = .ok (.invokevirtual 111, 3) := dk_182 0 111 (dk_at dksX3_isPressed_0 7 rfl rfl)
theorem dX3_isPressed_10 : decode cX3_isPressed 10 = .ok (.if_icmp .ge 59, 3) := dk_162 0 59 (dk_at dksX3_isPressed_0 10 rfl rfl)
theorem dX3_isPressed_13 : decode cX3_isPressed 13 = .ok (.aload_n 0, 1) := dk_42 (dk_at dksX3_isPressed_0 13 rfl rfl)
theorem dX3_isPressed_14 : decode cX3_isPressed 14 = .ok (.getfield 19, 3) := dk_180 0 19 (dk_at dksX3_isPressed_0 14 rfl rfl)
theorem dX3_isPressed_17 : decode cX3_isPressed 17 = .ok (.iload_n 1, 1) := dk_27 (dk_at dksX3_isPressed_0 17 rfl rfl)
theorem dX3_isPressed_18 : decode cX3_isPressed 18 = .ok (.iaload, 1) := dk_46 (dk_at dksX3_isPressed_0 18 rfl rfl)
theorem dX3_isPressed_19 : decode cX3_isPressed 19 = .ok (.ifCond .le 44, 3) := dk_158 0 44 (dk_at dksX3_isPressed_0 19 rfl rfl)
theorem dX3_isPressed_22 : decode cX3_isPressed 22 = .ok (.aload_n 0, 1) := dk_42 (dk_at dksX3_isPressed_0 22 rfl rfl)
theorem dX3_isPressed_23 : decode cX3_isPressed 23 = .ok (.getfield 67, 3) := dk_180 0 67 (dk_at dksX3_isPressed_1 0 rfl rfl)
theorem dX3_isPressed_26 : decode cX3_isPressed 26 = .ok (.bipush (-2), 2) := dk_16 254 (dk_at dksX3_isPressed_1 3 rfl rfl)
theorem dX3_isPressed_28 : decode cX3_isPressed 28 = .ok (.if_icmp .eq 33, 3) := dk_159 0 33 (dk_at dksX3_isPressed_1 5 rfl rfl)
theorem dX3_isPressed_31 : decode cX3_isPressed 31 = .ok (.aload_n 0, 1) := dk_42 (dk_at dksX3_isPressed_1 8 rfl rfl)
theorem dX3_isPressed_32 : decode cX3_isPressed 32 = .ok (.getfield 50, 3) := dk_180 0 50 (dk_at dksX3_isPressed_1 9 rfl rfl)
theorem dX3_isPressed_35 : decode cX3_isPressed 35 = .ok (.iload_n 1, 1) := dk_27 (dk_at dksX3_isPressed_1 12 rfl rfl)
theorem dX3_isPressed_36 : decode cX3_isPressed 36 = .ok (.invokevirtual 211, 3) := dk_182 0 211 (dk_at dksX3_isPressed_1 13 rfl rfl)
theorem dX3_isPressed_39 : decode cX3_isPressed 39 = .ok (.aload_n 0, 1) := dk_42 (dk_at dksX3_isPressed_1 16 rfl rfl)
theorem dX3_isPressed_40 : decode cX3_isPressed 40 = .ok (.invokevirtual 234, 3) := dk_182 0 234 (dk_at dksX3_isPressed_1 17 rfl rfl)
theorem dX3_isPressed_43 : decode cX3_isPressed 43 = .ok (.aload_n 0, 1) := dk_42 (dk_at dksX3_isPressed_1 20 rfl rfl)
theorem dX3_isPressed_44 : decode cX3_isPressed 44 = .ok (.getfield 50, 3) := dk_180 0 50 (dk_at dksX3_isPressed_1 21 rfl rfl)
theorem dX3_isPressed_47 : decode cX3_isPressed 47 = .ok (.aload_n 0, 1) := dk_42 (dk_at dksX3_isPressed_2 0 rfl rfl)
theorem dX3_isPressed_48 : decode cX3_isPressed 48 = .ok (.getfield 67, 3) := dk_180 0 67 (dk_at dksX3_isPressed_2 1 rfl rfl)
theorem dX3_isPressed_51 : decode cX3_isPressed 51 = .ok (.invokevirtual 211, 3) := dk_182 0 211 (dk_at dksX3_isPressed_2 4 rfl rfl)
theorem dX3_isPressed_54 : decode cX3_isPressed 54 = .ok (.aload_n 0, 1) := dk_42 (dk_at dksX3_isPressed_2 7 rfl rfl)
theorem dX3_isPressed_55 : decode cX3_isPressed 55 = .ok (.invokevirtual 234, 3) := dk_182 0 234 (dk_at dksX3_isPressed_2 8 rfl rfl)
theorem dX3_isPressed_58 : decode cX3_isPressed 58 = .ok (.if_icmp .le 5, 3) := dk_164 0 5 (dk_at dksX3_isPressed_2 11 rfl rfl)
theorem dX3_isPressed_61 : decode cX3_isPressed 61 = .ok (.iconst 1, 1) := dk_4 (dk_at dksX3_isPressed_2 14 rfl rfl)
theorem dX3_isPressed_62 : decode cX3_isPressed 62 = .ok (.ireturn, 1) := dk_172 (dk_at dksX3_isPressed_2 15 rfl rfl)
theorem dX3_isPressed_63 : decode cX3_isPressed 63 = .ok (.iinc 1 1, 3) := dk_132 1 1 (dk_at dksX3_isPressed_2 16 rfl rfl)
theorem dX3_isPressed_66 : decode cX3_isPressed 66 = .ok (.goto (-64), 3) := dk_167 255 192 (dk_at dksX3_isPressed_2 19 rfl rfl)
theorem dX3_isPressed_69 : decode cX3_isPressed 69 = .ok (.iconst 0, 1) := dk_3 (dk_at dksX3_isPressed_2 22 rfl rfl)
theorem dX3_isPressed_70 : decode cX3_isPressed 70 = .ok (.ireturn, 1) := dk_172 (dk_at dksX3_isPressed_2 23 rfl rfl)
abbrev cX3_begins_2 : ByteArray := prog_13_method_9_code
def yX3_begins_2 : MethodName := ⟨RX3, "begins", "(I)V"⟩
def dkwX3_begins_2_3 : List UInt8 := [167, 255, 223, 177]
abbrev dktX3_begins_2_3 : List UInt8 := dkwX3_begins_2_3 ++ []
def dkwX3_begins_2_2 : List UInt8 := [185, 0, 145, 1, 0, 192, 0, 149, 78, 42, 180, 0, 32, 45, 180, 0, 151, 42, 45, 184, 0, 154, 79]
abbrev dktX3_begins_2_2 : List UInt8 := dkwX3_begins_2_2 ++ dktX3_begins_2_3
def dkwX3_begins_2_1 : List UInt8 := [180, 0, 50, 27, 182, 0, 129, 185, 0, 133, 1, 0, 77, 44, 185, 0, 139, 1, 0, 153, 0, 30, 44]
abbrev dktX3_begins_2_1 : List UInt8 := dkwX3_begins_2_1 ++ dktX3_begins_2_2
def dkwX3_begins_2_0 : List UInt8 := [42, 27, 181, 0, 73, 42, 42, 180, 0, 57, 5, 42, 180, 0, 50, 180, 0, 126, 104, 96, 181, 0, 70, 42]
abbrev dktX3_begins_2_0 : List UInt8 := dkwX3_begins_2_0 ++ dktX3_begins_2_1
theorem dksX3_begins_2_0 : cX3_begins_2.data.toList.drop 0 = dktX3_begins_2_0 := by decide +kernel
theorem dksX3_begins_2_1 : cX3_begins_2.data.toList.drop 24 = dktX3_begins_2_1 := dk_seg dksX3_begins_2_0 24 rfl rfl
theorem dksX3_begins_2_2 : cX3_begins_2.data.toList.drop 47 = dktX3_begins_2_2 := dk_seg dksX3_begins_2_1 23 rfl rfl
theorem dksX3_begins_2_3 : cX3_begins_2.data.toList.drop 70 = dktX3_begins_2_3 := dk_seg dksX3_begins_2_2 23 rfl rfl
theorem dX3_begins_2_0 : decode cX3_begins_2 0 = .ok (.aload_n 0, 1) := dk_42 (dk_at dksX3_begins_2_0 0 rfl rfl)
theorem dX3_begins_2_1 : decode cX3_begins_2 1 = .ok (.iload_n 1, 1) := dk_27 (dk_at dksX3_begins_2_0 1 rfl rfl)
theorem dX3_begins_2_2 : decode cX3_begins_2 2 = .ok (.putfield 73, 3) := dk_181 0 73 (dk_at dksX3_begins_2_0 2 rfl rfl)
theorem dX3_begins_2_5 : decode cX3_begins_2 5 = .ok (.aload_n 0, 1) := dk_42 (dk_at dksX3_begins_2_0 5 rfl rfl)
theorem dX3_begins_2_6 : decode cX3_begins_2 6 = .ok (.aload_n 0, 1) := dk_42 (dk_at dksX3_begins_2_0 6 rfl rfl)
theorem dX3_begins_2_7 : decode cX3_begins_2 7 = .ok (.getfield 57, 3) := dk_180 0 57 (dk_at dksX3_begins_2_0 7 rfl rfl)
theorem dX3_begins_2_10 : decode cX3_begins_2 10 = .ok (.iconst 2, 1) := dk_5 (dk_at dksX3_begins_2_0 10 rfl rfl)
theorem dX3_begins_2_11 : decode cX3_begins_2 11 = .ok (.aload_n 0, 1) := dk_42 (dk_at dksX3_begins_2_0 11 rfl rfl)
theorem dX3_begins_2_12 : decode cX3_begins_2 12 = .ok (.getfield 50, 3) := dk_180 0 50 (dk_at dksX3_begins_2_0 12 rfl rfl)
theorem dX3_begins_2_15 : decode cX3_begins_2 15 = .ok (.getfield 126, 3) := dk_180 0 126 (dk_at dksX3_begins_2_0 15 rfl rfl)
theorem dX3_begins_2_18 : decode cX3_begins_2 18 = .ok (.imul, 1) := dk_104 (dk_at dksX3_begins_2_0 18 rfl rfl)
theorem dX3_begins_2_19 : decode cX3_begins_2 19 = .ok (.iadd, 1) := dk_96 (dk_at dksX3_begins_2_0 19 rfl rfl)
theorem dX3_begins_2_20 : decode cX3_begins_2 20 = .ok (.putfield 70, 3) := dk_181 0 70 (dk_at dksX3_begins_2_0 20 rfl rfl)
theorem dX3_begins_2_23 : decode cX3_begins_2 23 = .ok (.aload_n 0, 1) := dk_42 (dk_at dksX3_begins_2_0 23 rfl rfl)
theorem dX3_begins_2_24 : decode cX3_begins_2 24 = .ok (.getfield 50, 3) := dk_180 0 50 (dk_at dksX3_begins_2_1 0 rfl rfl)
theorem dX3_begins_2_27 : decode cX3_begins_2 27 = .ok (.iload_n 1, 1) := dk_27 (dk_at dksX3_begins_2_1 3 rfl rfl)
theorem dX3_begins_2_28 : decode cX3_begins_2 28 = .ok (.invokevirtual 129, 3) := dk_182 0 129 (dk_at dksX3_begins_2_1 4 rfl rfl)
theorem dX3_begins_2_31 : decode cX3_begins_2 31 = .ok (.invokeinterface 133 1, 5) := by decide +kernel
theorem dX3_begins_2_36 : decode cX3_begins_2 36 = .ok (.astore_n 2, 1) := dk_77 (dk_at dksX3_begins_2_1 12 rfl rfl)
theorem dX3_begins_2_37 : decode cX3_begins_2 37 = .ok (.aload_n 2, 1) := dk_44 (dk_at dksX3_begins_2_1 13 rfl rfl)
theorem dX3_begins_2_38 : decode cX3_begins_2 38 = .ok (.invokeinterface 139 1, 5) := by decide +kernel
theorem dX3_begins_2_43 : decode cX3_begins_2 43 = .ok (.ifCond .eq 30, 3) := dk_153 0 30 (dk_at dksX3_begins_2_1 19 rfl rfl)
theorem dX3_begins_2_46 : decode cX3_begins_2 46 = .ok (.aload_n 2, 1) := dk_44 (dk_at dksX3_begins_2_1 22 rfl rfl)
theorem dX3_begins_2_47 : decode cX3_begins_2 47 = .ok (.invokeinterface 145 1, 5) := by decide +kernel
theorem dX3_begins_2_52 : decode cX3_begins_2 52 = .ok (.checkcast 149, 3) := dk_192 0 149 (dk_at dksX3_begins_2_2 5 rfl rfl)
theorem dX3_begins_2_55 : decode cX3_begins_2 55 = .ok (.astore_n 3, 1) := dk_78 (dk_at dksX3_begins_2_2 8 rfl rfl)
theorem dX3_begins_2_56 : decode cX3_begins_2 56 = .ok (.aload_n 0, 1) := dk_42 (dk_at dksX3_begins_2_2 9 rfl rfl)
theorem dX3_begins_2_57 : decode cX3_begins_2 57 = .ok (.getfield 32, 3) := dk_180 0 32 (dk_at dksX3_begins_2_2 10 rfl rfl)
theorem dX3_begins_2_60 : decode cX3_begins_2 60 = .ok (.aload_n 3, 1) := dk_45 (dk_at dksX3_begins_2_2 13 rfl rfl)
theorem dX3_begins_2_61 : decode cX3_begins_2 61 = .ok (.getfield 151, 3) := dk_180 0 151 (dk_at dksX3_begins_2_2 14 rfl rfl)
theorem dX3_begins_2_64 : decode cX3_begins_2 64 = .ok (.aload_n 0, 1) := dk_42 (dk_at dksX3_begins_2_2 17 rfl rfl)
theorem dX3_begins_2_65 : decode cX3_begins_2 65 = .ok (.aload_n 3, 1) := dk_45 (dk_at dksX3_begins_2_2 18 rfl rfl)
theorem dX3_begins_2_66 : decode cX3_begins_2 66 = .ok (.invokestatic 154, 3) := dk_184 0 154 (dk_at dksX3_begins_2_2 19 rfl rfl)
theorem dX3_begins_2_69 : decode cX3_begins_2 69 = .ok (.iastore, 1) := dk_79 (dk_at dksX3_begins_2_2 22 rfl rfl)
theorem dX3_begins_2_70 : decode cX3_begins_2 70 = .ok (.goto (-33), 3) := dk_167 255 223 (dk_at dksX3_begins_2_3 0 rfl rfl)
theorem dX3_begins_2_73 : decode cX3_begins_2 73 = .ok (.return_, 1) := dk_177 (dk_at dksX3_begins_2_3 3 rfl rfl)
abbrev cX3_toCome : ByteArray := prog_13_method_8_code
def yX3_toCome : MethodName := ⟨RX3, "toCome", "()I"⟩
def dkwX3_toCome_2 : List UInt8 := [132, 2, 1, 167, 255, 212, 27, 172]
abbrev dktX3_toCome_2 : List UInt8 := dkwX3_toCome_2 ++ []
def dkwX3_toCome_1 : List UInt8 := [180, 0, 120, 28, 182, 0, 101, 192, 0, 122, 182, 0, 124, 42, 180, 0, 57, 164, 0, 6, 132, 1, 1]
abbrev dktX3_toCome_1 : List UInt8 := dkwX3_toCome_1 ++ dktX3_toCome_2
def dkwX3_toCome_0 : List UInt8 := [3, 60, 3, 61, 28, 42, 180, 0, 50, 180, 0, 120, 182, 0, 97, 162, 0, 36, 42, 180, 0, 50]
abbrev dktX3_toCome_0 : List UInt8 := dkwX3_toCome_0 ++ dktX3_toCome_1
theorem dksX3_toCome_0 : cX3_toCome.data.toList.drop 0 = dktX3_toCome_0 := by decide +kernel
theorem dksX3_toCome_1 : cX3_toCome.data.toList.drop 22 = dktX3_toCome_1 := dk_seg dksX3_toCome_0 22 rfl rfl
theorem dksX3_toCome_2 : cX3_toCome.data.toList.drop 45 = dktX3_toCome_2 := dk_seg dksX3_toCome_1 23 rfl rfl
theorem dX3_toCome_0 : decode cX3_toCome 0 = .ok (.iconst 0, 1) := dk_3 (dk_at dksX3_toCome_0 0 rfl rfl)
theorem dX3_toCome_1 : decode cX3_toCome 1 = .ok (.istore_n 1, 1) := dk_60 (dk_at dksX3_toCome_0 1 rfl rfl)
theorem dX3_toCome_2 : decode cX3_toCome 2 = .ok (.iconst 0, 1) := dk_3 (dk_at dksX3_toCome_0 2 rfl rfl)
theorem dX3_toCome_3 : decode cX3_toCome 3 = .ok (.istore_n 2, 1) := dk_61 (dk_at dksX3_toCome_0 3 rfl rfl)
theorem dX3_toCome_4 : decode cX3_toCome 4 = .ok (.iload_n 2, 1) := dk_28 (dk_at dksX3_toCome_0 4 rfl rfl)
theorem dX3_toCome_5 : decode cX3_toCome 5 = .ok (.aload_n 0, 1) := dk_42 (dk_at dksX3_toCome_0 5 rfl rfl)
theorem dX3_toCome_6 : decode cX3_toCome 6 = .ok (.getfield 50, 3) := dk_180 0 50 (dk_at dksX3_toCome_0 6 rfl rfl)
theorem dX3_toCome_9 : decode cX3_toCome 9 = .ok (.getfield 120, 3) := dk_180 0 120 (dk_at dksX3_toCome_0 9 rfl rfl)
theorem dX3_toCome_12 : decode cX3_toCome 12 = .ok (.invokevirtual 97, 3) := dk_182 0 97 (dk_at dksX3_toCome_0 12 rfl rfl)
theorem dX3_toCome_15 : decode cX3_toCome 15 = .ok (.if_icmp .ge 36, 3) := dk_162 0 36 (dk_at dksX3_toCome_0 15 rfl rfl)
theorem dX3_toCome_18 : decode cX3_toCome 18 = .ok (.aload_n 0, 1) := dk_42 (dk_at dksX3_toCome_0 18 rfl rfl)
theorem dX3_toCome_19 : decode cX3_toCome 19 = .ok (.getfield 50, 3) := dk_180 0 50 (dk_at dksX3_toCome_0 19 rfl rfl)
theorem dX3_toCome_22 : decode cX3_toCome 22 = .ok (.getfield 120, 3) := dk_180 0 120 (dk_at dksX3_toCome_1 0 rfl rfl)
theorem dX3_toCome_25 : decode cX3_toCome 25 = .ok (.iload_n 2, 1) := dk_28 (dk_at dksX3_toCome_1 3 rfl rfl)
theorem dX3_toCome_26 : decode cX3_toCome 26 = .ok (.invokevirtual 101, 3) := dk_182 0 101 (dk_at dksX3_toCome_1 4 rfl rfl)
theorem dX3_toCome_29 : decode cX3_toCome 29 = .ok (.checkcast 122, 3) := dk_192 0 122 (dk_at dksX3_toCome_1 7 rfl rfl)
theorem dX3_toCome_32 : decode cX3_toCome 32 = .ok (.invokevirtual 124, 3) := dk_182 0 124 (dk_at dksX3_toCome_1 10 rfl rfl)
theorem dX3_toCome_35 : decode cX3_toCome 35 = .ok (.aload_n 0, 1) := dk_42 (dk_at dksX3_toCome_1 13 rfl rfl)
theorem dX3_toCome_36 : decode cX3_toCome 36 = .ok (.getfield 57, 3) := dk_180 0 57 (dk_at dksX3_toCome_1 14 rfl rfl)
theorem dX3_toCome_39 : decode cX3_toCome 39 = .ok (.if_icmp .le 6, 3) := dk_164 0 6 (dk_at dksX3_toCome_1 17 rfl rfl)
theorem dX3_toCome_42 : decode cX3_toCome 42 = .ok (.iinc 1 1, 3) := dk_132 1 1 (dk_at dksX3_toCome_1 20 rfl rfl)
theorem dX3_toCome_45 : decode cX3_toCome 45 = .ok (.iinc 2 1, 3) := dk_132 2 1 (dk_at dksX3_toCome_2 0 rfl rfl)
theorem dX3_toCome_48 : decode cX3_toCome 48 = .ok (.goto (-44), 3) := dk_167 255 212 (dk_at dksX3_toCome_2 3 rfl rfl)
theorem dX3_toCome_51 : decode cX3_toCome 51 = .ok (.iload_n 1, 1) := dk_27 (dk_at dksX3_toCome_2 6 rfl rfl)
theorem dX3_toCome_52 : decode cX3_toCome 52 = .ok (.ireturn, 1) := dk_172 (dk_at dksX3_toCome_2 7 rfl rfl)
theorem q104 : (Jvm.Cond.initialized "OpenLines$Run") ∈ lw_all := lw_g (lw_at lw_m1 3 rfl) rfl
theorem q216 : (Jvm.Cond.instantiable "OpenLines$Run" (25 : Nat)) ∈ lw_all := lw_g (lw_at lw_m1 115 rfl) rfl
theorem q218 : (Jvm.Cond.instanceMethod ({ cls := "OpenLines$Run", name := "<init>", desc := "(LOpenLines;)V" } : Jvm.MethodName)) ∈ lw_all := lw_g (lw_at lw_m1 117 rfl) rfl
theorem q219 : (Jvm.Cond.code ({ cls := "OpenLines$Run", name := "<init>", desc := "(LOpenLines;)V" } : Jvm.MethodName) prog_13_method_1_code (2 : Nat) (Option.none : Option Jvm.ClassFile.FieldType)) ∈ lw_all := lw_g (lw_at lw_m1 118 rfl) rfl
theorem q220 : (Jvm.Cond.methodLink "OpenLines$Run" (9 : Nat) ({ cls := "java/lang/Object", name := "<init>", desc := "()V" } : Jvm.MethodName)) ∈ lw_all := lw_g (lw_at lw_m1 119 rfl) rfl
theorem q221 : (Jvm.Cond.classLink "OpenLines$Run" (38 : Nat) "java/util/ArrayList") ∈ lw_all := lw_g (lw_at lw_m1 120 rfl) rfl
theorem q223 : (Jvm.Cond.methodLink "OpenLines$Run" (40 : Nat) ({ cls := "java/util/ArrayList", name := "<init>", desc := "(I)V" } : Jvm.MethodName)) ∈ lw_all := lw_g (lw_at lw_m1 122 rfl) rfl
theorem q254 : (Jvm.Cond.fieldLink "OpenLines$Run" (50 : Nat) "OpenLines$Run" "bus" "LOpenLines$Bus;") ∈ lw_all := lw_g (lw_at lw_m1 153 rfl) rfl
theorem q256 : (Jvm.Cond.fieldLink "OpenLines$Run" (15 : Nat) "OpenLines$Run" "isFresh" "[Z") ∈ lw_all := lw_g (lw_at lw_m1 155 rfl) rfl
theorem q258 : (Jvm.Cond.fieldLink "OpenLines$Run" (19 : Nat) "OpenLines$Run" "asks" "[I") ∈ lw_all := lw_g (lw_at lw_m1 157 rfl) rfl
theorem q260 : (Jvm.Cond.fieldLink "OpenLines$Run" (23 : Nat) "OpenLines$Run" "since" "[I") ∈ lw_all := lw_g (lw_at lw_m1 159 rfl) rfl
theorem q261 : (Jvm.Cond.fieldLink "OpenLines$Run" (26 : Nat) "OpenLines$Run" "waits" "[I") ∈ lw_all := lw_g (lw_at lw_m1 160 rfl) rfl
theorem q263 : (Jvm.Cond.fieldLink "OpenLines$Run" (29 : Nat) "OpenLines$Run" "lines" "[I") ∈ lw_all := lw_g (lw_at lw_m1 162 rfl) rfl
theorem q265 : (Jvm.Cond.fieldLink "OpenLines$Run" (32 : Nat) "OpenLines$Run" "words" "[I") ∈ lw_all := lw_g (lw_at lw_m1 164 rfl) rfl
theorem q267 : (Jvm.Cond.fieldLink "OpenLines$Run" (35 : Nat) "OpenLines$Run" "ledger" "[I") ∈ lw_all := lw_g (lw_at lw_m1 166 rfl) rfl
theorem q269 : (Jvm.Cond.fieldLink "OpenLines$Run" (57 : Nat) "OpenLines$Run" "time" "I") ∈ lw_all := lw_g (lw_at lw_m1 168 rfl) rfl
theorem q271 : (Jvm.Cond.fieldLink "OpenLines$Run" (61 : Nat) "OpenLines$Run" "master" "I") ∈ lw_all := lw_g (lw_at lw_m1 170 rfl) rfl
theorem q273 : (Jvm.Cond.fieldLink "OpenLines$Run" (64 : Nat) "OpenLines$Run" "masterTill" "I") ∈ lw_all := lw_g (lw_at lw_m1 172 rfl) rfl
theorem q274 : (Jvm.Cond.fieldLink "OpenLines$Run" (67 : Nat) "OpenLines$Run" "elect" "I") ∈ lw_all := lw_g (lw_at lw_m1 173 rfl) rfl
theorem q275 : (Jvm.Cond.fieldLink "OpenLines$Run" (70 : Nat) "OpenLines$Run" "through" "I") ∈ lw_all := lw_g (lw_at lw_m1 174 rfl) rfl
theorem q276 : (Jvm.Cond.fieldLink "OpenLines$Run" (73 : Nat) "OpenLines$Run" "contenders" "I") ∈ lw_all := lw_g (lw_at lw_m1 175 rfl) rfl
theorem q277 : (Jvm.Cond.fieldLink "OpenLines$Run" (76 : Nat) "OpenLines$Run" "rounds" "I") ∈ lw_all := lw_g (lw_at lw_m1 176 rfl) rfl
theorem q278 : (Jvm.Cond.fieldLink "OpenLines$Run" (79 : Nat) "OpenLines$Run" "arbitrations" "I") ∈ lw_all := lw_g (lw_at lw_m1 177 rfl) rfl
theorem q279 : (Jvm.Cond.fieldLink "OpenLines$Run" (82 : Nat) "OpenLines$Run" "failed" "I") ∈ lw_all := lw_g (lw_at lw_m1 178 rfl) rfl
theorem q280 : (Jvm.Cond.fieldLink "OpenLines$Run" (85 : Nat) "OpenLines$Run" "faulty" "I") ∈ lw_all := lw_g (lw_at lw_m1 179 rfl) rfl
theorem q281 : (Jvm.Cond.fieldLink "OpenLines$Run" (88 : Nat) "OpenLines$Run" "putOff" "I") ∈ lw_all := lw_g (lw_at lw_m1 180 rfl) rfl
theorem q282 : (Jvm.Cond.fieldLink "OpenLines$Run" (43 : Nat) "OpenLines$Run" "log" "Ljava/util/ArrayList;") ∈ lw_all := lw_g (lw_at lw_m1 181 rfl) rfl
theorem q284 : (Jvm.Cond.fieldLink "OpenLines$Run" (47 : Nat) "OpenLines$Run" "masters" "[I") ∈ lw_all := lw_g (lw_at lw_m1 183 rfl) rfl
theorem q285 : (Jvm.Cond.fieldLink "OpenLines$Run" (161 : Nat) "OpenLines$Run" "found" "I") ∈ lw_all := lw_g (lw_at lw_m1 184 rfl) rfl
theorem q286 : (Jvm.Cond.fieldLink "OpenLines$Run" (181 : Nat) "OpenLines$Run" "firstWinners" "I") ∈ lw_all := lw_g (lw_at lw_m1 185 rfl) rfl
theorem q287 : (Jvm.Cond.fieldLink "OpenLines$Run" (164 : Nat) "OpenLines$Run" "lastWinners" "I") ∈ lw_all := lw_g (lw_at lw_m1 186 rfl) rfl
theorem q288 : (Jvm.Cond.fieldLink "OpenLines$Run" (3 : Nat) "OpenLines$Run" "this$0" "LOpenLines;") ∈ lw_all := lw_g (lw_at lw_m1 187 rfl) rfl
theorem q289 : (Jvm.Cond.lays "OpenLines$Run" "OpenLines$Run" "bus" "LOpenLines$Bus;") ∈ lw_all := lw_g (lw_at lw_m1 188 rfl) rfl
theorem q290 : (Jvm.Cond.soleField "OpenLines$Run" "bus") ∈ lw_all := lw_g (lw_at lw_m1 189 rfl) rfl
theorem q291 : (Jvm.Cond.laysFinal "OpenLines$Run" "OpenLines$Run" "isFresh" "[Z") ∈ lw_all := lw_g (lw_at lw_m1 190 rfl) rfl
theorem q292 : (Jvm.Cond.soleField "OpenLines$Run" "isFresh") ∈ lw_all := lw_g (lw_at lw_m1 191 rfl) rfl
theorem q293 : (Jvm.Cond.laysFinal "OpenLines$Run" "OpenLines$Run" "asks" "[I") ∈ lw_all := lw_g (lw_at lw_m1 192 rfl) rfl
theorem q294 : (Jvm.Cond.soleField "OpenLines$Run" "asks") ∈ lw_all := lw_g (lw_at lw_m1 193 rfl) rfl
theorem q295 : (Jvm.Cond.laysFinal "OpenLines$Run" "OpenLines$Run" "since" "[I") ∈ lw_all := lw_g (lw_at lw_m1 194 rfl) rfl
theorem q296 : (Jvm.Cond.soleField "OpenLines$Run" "since") ∈ lw_all := lw_g (lw_at lw_m1 195 rfl) rfl
theorem q297 : (Jvm.Cond.laysFinal "OpenLines$Run" "OpenLines$Run" "waits" "[I") ∈ lw_all := lw_g (lw_at lw_m1 196 rfl) rfl
theorem q298 : (Jvm.Cond.soleField "OpenLines$Run" "waits") ∈ lw_all := lw_g (lw_at lw_m1 197 rfl) rfl
theorem q299 : (Jvm.Cond.laysFinal "OpenLines$Run" "OpenLines$Run" "lines" "[I") ∈ lw_all := lw_g (lw_at lw_m1 198 rfl) rfl
theorem q300 : (Jvm.Cond.soleField "OpenLines$Run" "lines") ∈ lw_all := lw_g (lw_at lw_m1 199 rfl) rfl
theorem q301 : (Jvm.Cond.laysFinal "OpenLines$Run" "OpenLines$Run" "words" "[I") ∈ lw_all := lw_g (lw_at lw_m1 200 rfl) rfl
theorem q302 : (Jvm.Cond.soleField "OpenLines$Run" "words") ∈ lw_all := lw_g (lw_at lw_m1 201 rfl) rfl
theorem q303 : (Jvm.Cond.laysFinal "OpenLines$Run" "OpenLines$Run" "ledger" "[I") ∈ lw_all := lw_g (lw_at lw_m1 202 rfl) rfl
theorem q304 : (Jvm.Cond.soleField "OpenLines$Run" "ledger") ∈ lw_all := lw_g (lw_at lw_m1 203 rfl) rfl
theorem q305 : (Jvm.Cond.lays "OpenLines$Run" "OpenLines$Run" "time" "I") ∈ lw_all := lw_g (lw_at lw_m1 204 rfl) rfl
theorem q306 : (Jvm.Cond.soleField "OpenLines$Run" "time") ∈ lw_all := lw_g (lw_at lw_m1 205 rfl) rfl
theorem q307 : (Jvm.Cond.lays "OpenLines$Run" "OpenLines$Run" "master" "I") ∈ lw_all := lw_g (lw_at lw_m1 206 rfl) rfl
theorem q308 : (Jvm.Cond.soleField "OpenLines$Run" "master") ∈ lw_all := lw_g (lw_at lw_m1 207 rfl) rfl
theorem q309 : (Jvm.Cond.lays "OpenLines$Run" "OpenLines$Run" "masterTill" "I") ∈ lw_all := lw_g (lw_at lw_m1 208 rfl) rfl
theorem q310 : (Jvm.Cond.soleField "OpenLines$Run" "masterTill") ∈ lw_all := lw_g (lw_at lw_m1 209 rfl) rfl
theorem q311 : (Jvm.Cond.lays "OpenLines$Run" "OpenLines$Run" "elect" "I") ∈ lw_all := lw_g (lw_at lw_m1 210 rfl) rfl
theorem q312 : (Jvm.Cond.soleField "OpenLines$Run" "elect") ∈ lw_all := lw_g (lw_at lw_m1 211 rfl) rfl
theorem q313 : (Jvm.Cond.lays "OpenLines$Run" "OpenLines$Run" "through" "I") ∈ lw_all := lw_g (lw_at lw_m1 212 rfl) rfl
theorem q314 : (Jvm.Cond.soleField "OpenLines$Run" "through") ∈ lw_all := lw_g (lw_at lw_m1 213 rfl) rfl
theorem q315 : (Jvm.Cond.lays "OpenLines$Run" "OpenLines$Run" "contenders" "I") ∈ lw_all := lw_g (lw_at lw_m1 214 rfl) rfl
theorem q316 : (Jvm.Cond.soleField "OpenLines$Run" "contenders") ∈ lw_all := lw_g (lw_at lw_m1 215 rfl) rfl
theorem q317 : (Jvm.Cond.lays "OpenLines$Run" "OpenLines$Run" "rounds" "I") ∈ lw_all := lw_g (lw_at lw_m1 216 rfl) rfl
theorem q318 : (Jvm.Cond.soleField "OpenLines$Run" "rounds") ∈ lw_all := lw_g (lw_at lw_m1 217 rfl) rfl
theorem q319 : (Jvm.Cond.lays "OpenLines$Run" "OpenLines$Run" "arbitrations" "I") ∈ lw_all := lw_g (lw_at lw_m1 218 rfl) rfl
theorem q320 : (Jvm.Cond.soleField "OpenLines$Run" "arbitrations") ∈ lw_all := lw_g (lw_at lw_m1 219 rfl) rfl
theorem q321 : (Jvm.Cond.lays "OpenLines$Run" "OpenLines$Run" "failed" "I") ∈ lw_all := lw_g (lw_at lw_m1 220 rfl) rfl
theorem q322 : (Jvm.Cond.soleField "OpenLines$Run" "failed") ∈ lw_all := lw_g (lw_at lw_m1 221 rfl) rfl
theorem q323 : (Jvm.Cond.lays "OpenLines$Run" "OpenLines$Run" "faulty" "I") ∈ lw_all := lw_g (lw_at lw_m1 222 rfl) rfl
theorem q324 : (Jvm.Cond.soleField "OpenLines$Run" "faulty") ∈ lw_all := lw_g (lw_at lw_m1 223 rfl) rfl
theorem q325 : (Jvm.Cond.lays "OpenLines$Run" "OpenLines$Run" "putOff" "I") ∈ lw_all := lw_g (lw_at lw_m1 224 rfl) rfl
theorem q326 : (Jvm.Cond.soleField "OpenLines$Run" "putOff") ∈ lw_all := lw_g (lw_at lw_m1 225 rfl) rfl
theorem q327 : (Jvm.Cond.laysFinal "OpenLines$Run" "OpenLines$Run" "log" "Ljava/util/ArrayList;") ∈ lw_all := lw_g (lw_at lw_m1 226 rfl) rfl
theorem q328 : (Jvm.Cond.soleField "OpenLines$Run" "log") ∈ lw_all := lw_g (lw_at lw_m1 227 rfl) rfl
theorem q329 : (Jvm.Cond.laysFinal "OpenLines$Run" "OpenLines$Run" "masters" "[I") ∈ lw_all := lw_g (lw_at lw_m1 228 rfl) rfl
theorem q330 : (Jvm.Cond.soleField "OpenLines$Run" "masters") ∈ lw_all := lw_g (lw_at lw_m1 229 rfl) rfl
theorem q331 : (Jvm.Cond.lays "OpenLines$Run" "OpenLines$Run" "found" "I") ∈ lw_all := lw_g (lw_at lw_m1 230 rfl) rfl
theorem q332 : (Jvm.Cond.soleField "OpenLines$Run" "found") ∈ lw_all := lw_g (lw_at lw_m1 231 rfl) rfl
theorem q333 : (Jvm.Cond.lays "OpenLines$Run" "OpenLines$Run" "firstWinners" "I") ∈ lw_all := lw_g (lw_at lw_m1 232 rfl) rfl
theorem q334 : (Jvm.Cond.soleField "OpenLines$Run" "firstWinners") ∈ lw_all := lw_g (lw_at lw_m1 233 rfl) rfl
theorem q335 : (Jvm.Cond.lays "OpenLines$Run" "OpenLines$Run" "lastWinners" "I") ∈ lw_all := lw_g (lw_at lw_m1 234 rfl) rfl
theorem q336 : (Jvm.Cond.soleField "OpenLines$Run" "lastWinners") ∈ lw_all := lw_g (lw_at lw_m1 235 rfl) rfl
theorem q337 : (Jvm.Cond.laysFinal "OpenLines$Run" "OpenLines$Run" "this$0" "LOpenLines;") ∈ lw_all := lw_g (lw_at lw_m1 236 rfl) rfl
theorem q338 : (Jvm.Cond.soleField "OpenLines$Run" "this$0") ∈ lw_all := lw_g (lw_at lw_m1 237 rfl) rfl
theorem q339 : (Jvm.Cond.superclass "OpenLines$Run" "java/lang/Object") ∈ lw_all := lw_g (lw_at lw_m1 238 rfl) rfl
theorem q341 : (Jvm.Cond.fieldLinkNest "OpenLines$Run" (167 : Nat) "OpenLines" "pass" "LOpenLines$Pass;" "OpenLines") ∈ lw_tbl := lw_at lw_m2 0 rfl
theorem q476 : (Jvm.Cond.fieldLinkNest "OpenLines$Run" (126 : Nat) "OpenLines$Bus" "window" "I" "OpenLines") ∈ lw_tbl := lw_at lw_m2 135 rfl
theorem q482 : (Jvm.Cond.fieldLinkNest "OpenLines$Run" (120 : Nat) "OpenLines$Bus" "asks" "Ljava/util/ArrayList;" "OpenLines") ∈ lw_tbl := lw_at lw_m2 141 rfl
theorem q812 : (Jvm.Cond.selects "OpenLines$Run" ({ cls := "java/lang/Object", name := "hashCode", desc := "()I" } : Jvm.MethodName) ({ cls := "java/lang/Object", name := "hashCode", desc := "()I" } : Jvm.MethodName)) ∈ lw_all := lw_g (lw_at lw_m3 231 rfl) rfl
theorem q890 : (Jvm.Cond.selects "OpenLines$Run" ({ cls := "java/lang/Object", name := "equals", desc := "(Ljava/lang/Object;)Z" } : Jvm.MethodName) ({ cls := "java/lang/Object", name := "equals", desc := "(Ljava/lang/Object;)Z" } : Jvm.MethodName)) ∈ lw_all := lw_g (lw_at lw_m4 69 rfl) rfl
theorem q943 : (Jvm.Cond.selects "OpenLines$Run" ({ cls := "java/lang/Object", name := "getClass", desc := "()Ljava/lang/Class;" } : Jvm.MethodName) ({ cls := "java/lang/Object", name := "getClass", desc := "()Ljava/lang/Class;" } : Jvm.MethodName)) ∈ lw_all := lw_g (lw_at lw_m4 122 rfl) rfl
theorem q1142 : (Jvm.Cond.fieldLinkNest "OpenLines$Run" (151 : Nat) "OpenLines$Board" "number" "I" "OpenLines") ∈ lw_tbl := lw_at lw_m5 81 rfl
theorem q1146 : (Jvm.Cond.fieldLinkNest "OpenLines$Run" (215 : Nat) "OpenLines$Board" "slot" "I" "OpenLines") ∈ lw_tbl := lw_at lw_m5 85 rfl
theorem q1424 : (Jvm.Cond.instanceMethod ({ cls := "OpenLines$Run", name := "begins", desc := "(LOpenLines$Bus;)V" } : Jvm.MethodName)) ∈ lw_all := lw_g (lw_at lw_m6 123 rfl) rfl
theorem q1425 : (Jvm.Cond.selects "OpenLines$Run" ({ cls := "OpenLines$Run", name := "begins", desc := "(LOpenLines$Bus;)V" } : Jvm.MethodName) ({ cls := "OpenLines$Run", name := "begins", desc := "(LOpenLines$Bus;)V" } : Jvm.MethodName)) ∈ lw_all := lw_g (lw_at lw_m6 124 rfl) rfl
theorem q1426 : (Jvm.Cond.code ({ cls := "OpenLines$Run", name := "begins", desc := "(LOpenLines$Bus;)V" } : Jvm.MethodName) prog_13_method_2_code (4 : Nat) (Option.none : Option Jvm.ClassFile.FieldType)) ∈ lw_all := lw_g (lw_at lw_m6 125 rfl) rfl
theorem q1427 : (Jvm.Cond.methodLink "OpenLines$Run" (54 : Nat) ({ cls := "java/util/ArrayList", name := "clear", desc := "()V" } : Jvm.MethodName)) ∈ lw_all := lw_g (lw_at lw_m6 126 rfl) rfl
theorem q1486 : (Jvm.Cond.instanceMethod ({ cls := "OpenLines$Run", name := "waitsFor", desc := "(II)Z" } : Jvm.MethodName)) ∈ lw_all := lw_g (lw_at lw_m6 185 rfl) rfl
theorem q1487 : (Jvm.Cond.selects "OpenLines$Run" ({ cls := "OpenLines$Run", name := "waitsFor", desc := "(II)Z" } : Jvm.MethodName) ({ cls := "OpenLines$Run", name := "waitsFor", desc := "(II)Z" } : Jvm.MethodName)) ∈ lw_all := lw_g (lw_at lw_m6 186 rfl) rfl
theorem q1488 : (Jvm.Cond.code ({ cls := "OpenLines$Run", name := "waitsFor", desc := "(II)Z" } : Jvm.MethodName) prog_13_method_5_code (4 : Nat) (Option.some Jvm.ClassFile.FieldType.boolean)) ∈ lw_all := lw_g (lw_at lw_m6 187 rfl) rfl
theorem q1720 : (Jvm.Cond.instanceMethod ({ cls := "OpenLines$Run", name := "passes", desc := "(ILOpenLines$Word;)I" } : Jvm.MethodName)) ∈ lw_all := lw_g (lw_at lw_m7 179 rfl) rfl
theorem q1721 : (Jvm.Cond.selects "OpenLines$Run" ({ cls := "OpenLines$Run", name := "passes", desc := "(ILOpenLines$Word;)I" } : Jvm.MethodName) ({ cls := "OpenLines$Run", name := "passes", desc := "(ILOpenLines$Word;)I" } : Jvm.MethodName)) ∈ lw_all := lw_g (lw_at lw_m7 180 rfl) rfl
theorem q1722 : (Jvm.Cond.code ({ cls := "OpenLines$Run", name := "passes", desc := "(ILOpenLines$Word;)I" } : Jvm.MethodName) prog_13_method_10_code (5 : Nat) (Option.some Jvm.ClassFile.FieldType.int)) ∈ lw_all := lw_g (lw_at lw_m7 181 rfl) rfl
theorem q1723 : (Jvm.Cond.methodLinkNest "OpenLines$Run" (158 : Nat) ({ cls := "OpenLines", name := "forgets", desc := "()V" } : Jvm.MethodName) "OpenLines") ∈ lw_tbl := lw_at lw_m7 182 rfl
theorem q1724 : (Jvm.Cond.methodLink "OpenLines$Run" (171 : Nat) ({ cls := "OpenLines$Pass", name := "goes", desc := "(LOpenLines$Bus;ILOpenLines$Word;[II)LOpenLines$Pass;" } : Jvm.MethodName)) ∈ lw_all := lw_g (lw_at lw_m7 183 rfl) rfl
theorem q1725 : (Jvm.Cond.methodLink "OpenLines$Run" (177 : Nat) ({ cls := "OpenLines$Pass", name := "winners", desc := "(I)I" } : Jvm.MethodName)) ∈ lw_all := lw_g (lw_at lw_m7 184 rfl) rfl
theorem q1726 : (Jvm.Cond.methodLink "OpenLines$Run" (184 : Nat) ({ cls := "OpenLines$Pass", name := "isFaulty", desc := "(I)Z" } : Jvm.MethodName)) ∈ lw_all := lw_g (lw_at lw_m7 185 rfl) rfl
theorem q1727 : (Jvm.Cond.classLink "OpenLines$Run" (188 : Nat) "OpenLines$Run$1") ∈ lw_all := lw_g (lw_at lw_m7 186 rfl) rfl
theorem q1729 : (Jvm.Cond.methodLink "OpenLines$Run" (190 : Nat) ({ cls := "OpenLines$Run$1", name := "<init>", desc := "(LOpenLines$Run;)V" } : Jvm.MethodName)) ∈ lw_all := lw_g (lw_at lw_m7 188 rfl) rfl
theorem q1737 : (Jvm.Cond.methodLink "OpenLines$Run" (193 : Nat) ({ cls := "java/lang/Integer", name := "bitCount", desc := "(I)I" } : Jvm.MethodName)) ∈ lw_all := lw_g (lw_at lw_m7 196 rfl) rfl
theorem q1738 : (Jvm.Cond.methodLink "OpenLines$Run" (198 : Nat) ({ cls := "java/lang/Integer", name := "numberOfTrailingZeros", desc := "(I)I" } : Jvm.MethodName)) ∈ lw_all := lw_g (lw_at lw_m7 197 rfl) rfl
theorem q1747 : (Jvm.Cond.instanceMethod ({ cls := "OpenLines$Run", name := "is", desc := "(I)I" } : Jvm.MethodName)) ∈ lw_all := lw_g (lw_at lw_m7 206 rfl) rfl
theorem q1748 : (Jvm.Cond.selects "OpenLines$Run" ({ cls := "OpenLines$Run", name := "is", desc := "(I)I" } : Jvm.MethodName) ({ cls := "OpenLines$Run", name := "is", desc := "(I)I" } : Jvm.MethodName)) ∈ lw_all := lw_g (lw_at lw_m7 207 rfl) rfl
theorem q1749 : (Jvm.Cond.code ({ cls := "OpenLines$Run", name := "is", desc := "(I)I" } : Jvm.MethodName) prog_13_method_21_code (2 : Nat) (Option.some Jvm.ClassFile.FieldType.int)) ∈ lw_all := lw_g (lw_at lw_m7 208 rfl) rfl
theorem q1750 : (Jvm.Cond.methodLink "OpenLines$Run" (255 : Nat) ({ cls := "OpenLines$Run", name := "asking", desc := "()I" } : Jvm.MethodName)) ∈ lw_all := lw_g (lw_at lw_m7 209 rfl) rfl
theorem q1751 : (Jvm.Cond.instanceMethod ({ cls := "OpenLines$Run", name := "asking", desc := "()I" } : Jvm.MethodName)) ∈ lw_all := lw_g (lw_at lw_m7 210 rfl) rfl
theorem q1752 : (Jvm.Cond.selects "OpenLines$Run" ({ cls := "OpenLines$Run", name := "asking", desc := "()I" } : Jvm.MethodName) ({ cls := "OpenLines$Run", name := "asking", desc := "()I" } : Jvm.MethodName)) ∈ lw_all := lw_g (lw_at lw_m7 211 rfl) rfl
theorem q1753 : (Jvm.Cond.code ({ cls := "OpenLines$Run", name := "asking", desc := "()I" } : Jvm.MethodName) prog_13_method_6_code (3 : Nat) (Option.some Jvm.ClassFile.FieldType.int)) ∈ lw_all := lw_g (lw_at lw_m7 212 rfl) rfl
theorem q1754 : (Jvm.Cond.methodLink "OpenLines$Run" (111 : Nat) ({ cls := "OpenLines$Bus", name := "many", desc := "()I" } : Jvm.MethodName)) ∈ lw_all := lw_g (lw_at lw_m7 213 rfl) rfl
theorem q1794 : (Jvm.Cond.instanceMethod ({ cls := "OpenLines$Run", name := "past", desc := "(I)I" } : Jvm.MethodName)) ∈ lw_all := lw_g (lw_at lw_m8 13 rfl) rfl
theorem q1795 : (Jvm.Cond.selects "OpenLines$Run" ({ cls := "OpenLines$Run", name := "past", desc := "(I)I" } : Jvm.MethodName) ({ cls := "OpenLines$Run", name := "past", desc := "(I)I" } : Jvm.MethodName)) ∈ lw_all := lw_g (lw_at lw_m8 14 rfl) rfl
theorem q1796 : (Jvm.Cond.code ({ cls := "OpenLines$Run", name := "past", desc := "(I)I" } : Jvm.MethodName) prog_13_method_18_code (2 : Nat) (Option.some Jvm.ClassFile.FieldType.int)) ∈ lw_all := lw_g (lw_at lw_m8 15 rfl) rfl
theorem q1802 : (Jvm.Cond.instanceMethod ({ cls := "OpenLines$Run", name := "idle", desc := "()I" } : Jvm.MethodName)) ∈ lw_all := lw_g (lw_at lw_m8 21 rfl) rfl
theorem q1803 : (Jvm.Cond.selects "OpenLines$Run" ({ cls := "OpenLines$Run", name := "idle", desc := "()I" } : Jvm.MethodName) ({ cls := "OpenLines$Run", name := "idle", desc := "()I" } : Jvm.MethodName)) ∈ lw_all := lw_g (lw_at lw_m8 22 rfl) rfl
theorem q1804 : (Jvm.Cond.code ({ cls := "OpenLines$Run", name := "idle", desc := "()I" } : Jvm.MethodName) prog_13_method_19_code (3 : Nat) (Option.some Jvm.ClassFile.FieldType.int)) ∈ lw_all := lw_g (lw_at lw_m8 23 rfl) rfl
theorem q1805 : (Jvm.Cond.methodLink "OpenLines$Run" (261 : Nat) ({ cls := "java/lang/Math", name := "min", desc := "(II)I" } : Jvm.MethodName)) ∈ lw_all := lw_g (lw_at lw_m8 24 rfl) rfl
theorem q1806 : (Jvm.Cond.methodLink "OpenLines$Run" (264 : Nat) ({ cls := "OpenLines$Run", name := "past", desc := "(I)I" } : Jvm.MethodName)) ∈ lw_all := lw_g (lw_at lw_m8 25 rfl) rfl
theorem q1812 : (Jvm.Cond.instanceMethod ({ cls := "OpenLines$Run", name := "waiting", desc := "(I)I" } : Jvm.MethodName)) ∈ lw_all := lw_g (lw_at lw_m8 31 rfl) rfl
theorem q1813 : (Jvm.Cond.selects "OpenLines$Run" ({ cls := "OpenLines$Run", name := "waiting", desc := "(I)I" } : Jvm.MethodName) ({ cls := "OpenLines$Run", name := "waiting", desc := "(I)I" } : Jvm.MethodName)) ∈ lw_all := lw_g (lw_at lw_m8 32 rfl) rfl
theorem q1814 : (Jvm.Cond.code ({ cls := "OpenLines$Run", name := "waiting", desc := "(I)I" } : Jvm.MethodName) prog_13_method_12_code (4 : Nat) (Option.some Jvm.ClassFile.FieldType.int)) ∈ lw_all := lw_g (lw_at lw_m8 33 rfl) rfl
theorem q1815 : (Jvm.Cond.methodLink "OpenLines$Run" (207 : Nat) ({ cls := "OpenLines$Run", name := "waitsFor", desc := "(II)Z" } : Jvm.MethodName)) ∈ lw_all := lw_g (lw_at lw_m8 34 rfl) rfl
theorem q1821 : (Jvm.Cond.instanceMethod ({ cls := "OpenLines$Run", name := "longest", desc := "()I" } : Jvm.MethodName)) ∈ lw_all := lw_g (lw_at lw_m8 40 rfl) rfl
theorem q1822 : (Jvm.Cond.selects "OpenLines$Run" ({ cls := "OpenLines$Run", name := "longest", desc := "()I" } : Jvm.MethodName) ({ cls := "OpenLines$Run", name := "longest", desc := "()I" } : Jvm.MethodName)) ∈ lw_all := lw_g (lw_at lw_m8 41 rfl) rfl
theorem q1823 : (Jvm.Cond.code ({ cls := "OpenLines$Run", name := "longest", desc := "()I" } : Jvm.MethodName) prog_13_method_13_code (3 : Nat) (Option.some Jvm.ClassFile.FieldType.int)) ∈ lw_all := lw_g (lw_at lw_m8 42 rfl) rfl
theorem q1824 : (Jvm.Cond.methodLink "OpenLines$Run" (211 : Nat) ({ cls := "OpenLines$Bus", name := "board", desc := "(I)LOpenLines$Board;" } : Jvm.MethodName)) ∈ lw_all := lw_g (lw_at lw_m8 43 rfl) rfl
theorem q1830 : (Jvm.Cond.instanceMethod ({ cls := "OpenLines$Run", name := "be", desc := "(LOpenLines$Run;)V" } : Jvm.MethodName)) ∈ lw_all := lw_g (lw_at lw_m8 49 rfl) rfl
theorem q1831 : (Jvm.Cond.selects "OpenLines$Run" ({ cls := "OpenLines$Run", name := "be", desc := "(LOpenLines$Run;)V" } : Jvm.MethodName) ({ cls := "OpenLines$Run", name := "be", desc := "(LOpenLines$Run;)V" } : Jvm.MethodName)) ∈ lw_all := lw_g (lw_at lw_m8 50 rfl) rfl
theorem q1832 : (Jvm.Cond.code ({ cls := "OpenLines$Run", name := "be", desc := "(LOpenLines$Run;)V" } : Jvm.MethodName) prog_13_method_3_code (3 : Nat) (Option.none : Option Jvm.ClassFile.FieldType)) ∈ lw_all := lw_g (lw_at lw_m8 51 rfl) rfl
theorem q1833 : (Jvm.Cond.methodLink "OpenLines$Run" (91 : Nat) ({ cls := "java/lang/System", name := "arraycopy", desc := "(Ljava/lang/Object;ILjava/lang/Object;II)V" } : Jvm.MethodName)) ∈ lw_all := lw_g (lw_at lw_m8 52 rfl) rfl
theorem q1834 : (Jvm.Cond.methodLink "OpenLines$Run" (97 : Nat) ({ cls := "java/util/ArrayList", name := "size", desc := "()I" } : Jvm.MethodName)) ∈ lw_all := lw_g (lw_at lw_m8 53 rfl) rfl
theorem q1835 : (Jvm.Cond.methodLink "OpenLines$Run" (101 : Nat) ({ cls := "java/util/ArrayList", name := "get", desc := "(I)Ljava/lang/Object;" } : Jvm.MethodName)) ∈ lw_all := lw_g (lw_at lw_m8 54 rfl) rfl
theorem q1836 : (Jvm.Cond.classLink "OpenLines$Run" (105 : Nat) "OpenLines$Entry") ∈ lw_all := lw_g (lw_at lw_m8 55 rfl) rfl
theorem q1837 : (Jvm.Cond.methodLink "OpenLines$Run" (107 : Nat) ({ cls := "java/util/ArrayList", name := "add", desc := "(Ljava/lang/Object;)Z" } : Jvm.MethodName)) ∈ lw_all := lw_g (lw_at lw_m8 56 rfl) rfl
theorem q1839 : (Jvm.Cond.instanceMethod ({ cls := "OpenLines$Run", name := "goes", desc := "(I)V" } : Jvm.MethodName)) ∈ lw_all := lw_g (lw_at lw_m8 58 rfl) rfl
theorem q1840 : (Jvm.Cond.selects "OpenLines$Run" ({ cls := "OpenLines$Run", name := "goes", desc := "(I)V" } : Jvm.MethodName) ({ cls := "OpenLines$Run", name := "goes", desc := "(I)V" } : Jvm.MethodName)) ∈ lw_all := lw_g (lw_at lw_m8 59 rfl) rfl
theorem q1841 : (Jvm.Cond.code ({ cls := "OpenLines$Run", name := "goes", desc := "(I)V" } : Jvm.MethodName) prog_13_method_20_code (3 : Nat) (Option.none : Option Jvm.ClassFile.FieldType)) ∈ lw_all := lw_g (lw_at lw_m8 60 rfl) rfl
theorem q1842 : (Jvm.Cond.methodLink "OpenLines$Run" (267 : Nat) ({ cls := "OpenLines$Run", name := "tick", desc := "()V" } : Jvm.MethodName)) ∈ lw_all := lw_g (lw_at lw_m8 61 rfl) rfl
theorem q1843 : (Jvm.Cond.privateMethod ({ cls := "OpenLines$Run", name := "tick", desc := "()V" } : Jvm.MethodName)) ∈ lw_tbl := lw_at lw_m8 62 rfl
theorem q1844 : (Jvm.Cond.instanceMethod ({ cls := "OpenLines$Run", name := "tick", desc := "()V" } : Jvm.MethodName)) ∈ lw_all := lw_g (lw_at lw_m8 63 rfl) rfl
theorem q1845 : (Jvm.Cond.code ({ cls := "OpenLines$Run", name := "tick", desc := "()V" } : Jvm.MethodName) prog_13_method_17_code (2 : Nat) (Option.none : Option Jvm.ClassFile.FieldType)) ∈ lw_all := lw_g (lw_at lw_m8 64 rfl) rfl
theorem q1846 : (Jvm.Cond.classLink "OpenLines$Run" (122 : Nat) "OpenLines$Ask") ∈ lw_all := lw_g (lw_at lw_m8 65 rfl) rfl
theorem q1847 : (Jvm.Cond.methodLink "OpenLines$Run" (124 : Nat) ({ cls := "OpenLines$Ask", name := "time", desc := "()I" } : Jvm.MethodName)) ∈ lw_all := lw_g (lw_at lw_m8 66 rfl) rfl
theorem q1848 : (Jvm.Cond.methodLink "OpenLines$Run" (238 : Nat) ({ cls := "OpenLines$Ask", name := "board", desc := "()I" } : Jvm.MethodName)) ∈ lw_all := lw_g (lw_at lw_m8 67 rfl) rfl
theorem q1852 : (Jvm.Cond.methodLink "OpenLines$Run" (240 : Nat) ({ cls := "OpenLines$Ask", name := "ticks", desc := "()I" } : Jvm.MethodName)) ∈ lw_all := lw_g (lw_at lw_m8 71 rfl) rfl
theorem q1856 : (Jvm.Cond.methodLink "OpenLines$Run" (243 : Nat) ({ cls := "OpenLines$Run", name := "hears", desc := "(II)Z" } : Jvm.MethodName)) ∈ lw_all := lw_g (lw_at lw_m8 75 rfl) rfl
theorem q1857 : (Jvm.Cond.instanceMethod ({ cls := "OpenLines$Run", name := "hears", desc := "(II)Z" } : Jvm.MethodName)) ∈ lw_all := lw_g (lw_at lw_m8 76 rfl) rfl
theorem q1858 : (Jvm.Cond.selects "OpenLines$Run" ({ cls := "OpenLines$Run", name := "hears", desc := "(II)Z" } : Jvm.MethodName) ({ cls := "OpenLines$Run", name := "hears", desc := "(II)Z" } : Jvm.MethodName)) ∈ lw_all := lw_g (lw_at lw_m8 77 rfl) rfl
theorem q1859 : (Jvm.Cond.code ({ cls := "OpenLines$Run", name := "hears", desc := "(II)Z" } : Jvm.MethodName) prog_13_method_7_code (3 : Nat) (Option.some Jvm.ClassFile.FieldType.boolean)) ∈ lw_all := lw_g (lw_at lw_m8 78 rfl) rfl
theorem q1860 : (Jvm.Cond.methodLink "OpenLines$Run" (116 : Nat) ({ cls := "OpenLines$Run", name := "counts", desc := "(II)V" } : Jvm.MethodName)) ∈ lw_all := lw_g (lw_at lw_m8 79 rfl) rfl
theorem q1861 : (Jvm.Cond.privateMethod ({ cls := "OpenLines$Run", name := "counts", desc := "(II)V" } : Jvm.MethodName)) ∈ lw_tbl := lw_at lw_m8 80 rfl
theorem q1862 : (Jvm.Cond.instanceMethod ({ cls := "OpenLines$Run", name := "counts", desc := "(II)V" } : Jvm.MethodName)) ∈ lw_all := lw_g (lw_at lw_m8 81 rfl) rfl
theorem q1863 : (Jvm.Cond.code ({ cls := "OpenLines$Run", name := "counts", desc := "(II)V" } : Jvm.MethodName) prog_13_method_4_code (3 : Nat) (Option.none : Option Jvm.ClassFile.FieldType)) ∈ lw_all := lw_g (lw_at lw_m8 82 rfl) rfl
theorem q1864 : (Jvm.Cond.methodLink "OpenLines$Run" (246 : Nat) ({ cls := "OpenLines$Run", name := "isThrough", desc := "()V" } : Jvm.MethodName)) ∈ lw_all := lw_g (lw_at lw_m8 83 rfl) rfl
theorem q1865 : (Jvm.Cond.privateMethod ({ cls := "OpenLines$Run", name := "isThrough", desc := "()V" } : Jvm.MethodName)) ∈ lw_tbl := lw_at lw_m8 84 rfl
theorem q1866 : (Jvm.Cond.instanceMethod ({ cls := "OpenLines$Run", name := "isThrough", desc := "()V" } : Jvm.MethodName)) ∈ lw_all := lw_g (lw_at lw_m8 85 rfl) rfl
theorem q1867 : (Jvm.Cond.code ({ cls := "OpenLines$Run", name := "isThrough", desc := "()V" } : Jvm.MethodName) prog_13_method_14_code (3 : Nat) (Option.none : Option Jvm.ClassFile.FieldType)) ∈ lw_all := lw_g (lw_at lw_m8 86 rfl) rfl
theorem q1868 : (Jvm.Cond.classLink "OpenLines$Run" (218 : Nat) "OpenLines$Run$2") ∈ lw_all := lw_g (lw_at lw_m8 87 rfl) rfl
theorem q1870 : (Jvm.Cond.methodLink "OpenLines$Run" (220 : Nat) ({ cls := "OpenLines$Run$2", name := "<init>", desc := "(LOpenLines$Run;)V" } : Jvm.MethodName)) ∈ lw_all := lw_g (lw_at lw_m8 89 rfl) rfl
theorem q1878 : (Jvm.Cond.methodLink "OpenLines$Run" (221 : Nat) ({ cls := "OpenLines$Run", name := "passes", desc := "(ILOpenLines$Word;)I" } : Jvm.MethodName)) ∈ lw_all := lw_g (lw_at lw_m8 97 rfl) rfl
theorem q1879 : (Jvm.Cond.methodLink "OpenLines$Run" (225 : Nat) ({ cls := "OpenLines$Run", name := "notes", desc := "(I)V" } : Jvm.MethodName)) ∈ lw_all := lw_g (lw_at lw_m8 98 rfl) rfl
theorem q1880 : (Jvm.Cond.privateMethod ({ cls := "OpenLines$Run", name := "notes", desc := "(I)V" } : Jvm.MethodName)) ∈ lw_tbl := lw_at lw_m8 99 rfl
theorem q1881 : (Jvm.Cond.instanceMethod ({ cls := "OpenLines$Run", name := "notes", desc := "(I)V" } : Jvm.MethodName)) ∈ lw_all := lw_g (lw_at lw_m8 100 rfl) rfl
theorem q1882 : (Jvm.Cond.code ({ cls := "OpenLines$Run", name := "notes", desc := "(I)V" } : Jvm.MethodName) prog_13_method_11_code (2 : Nat) (Option.none : Option Jvm.ClassFile.FieldType)) ∈ lw_all := lw_g (lw_at lw_m8 101 rfl) rfl
theorem q1883 : (Jvm.Cond.methodLink "OpenLines$Run" (201 : Nat) ({ cls := "java/util/ArrayList", name := "remove", desc := "(I)Ljava/lang/Object;" } : Jvm.MethodName)) ∈ lw_all := lw_g (lw_at lw_m8 102 rfl) rfl
theorem q1893 : (Jvm.Cond.methodLinkNest "OpenLines$Run" (204 : Nat) ({ cls := "OpenLines$Entry", name := "<init>", desc := "(IIIIII)V" } : Jvm.MethodName) "OpenLines") ∈ lw_tbl := lw_at lw_m8 112 rfl
theorem q1916 : (Jvm.Cond.methodLink "OpenLines$Run" (249 : Nat) ({ cls := "OpenLines$Run", name := "isMaster", desc := "()V" } : Jvm.MethodName)) ∈ lw_all := lw_g (lw_at lw_m8 135 rfl) rfl
theorem q1917 : (Jvm.Cond.privateMethod ({ cls := "OpenLines$Run", name := "isMaster", desc := "()V" } : Jvm.MethodName)) ∈ lw_tbl := lw_at lw_m8 136 rfl
theorem q1918 : (Jvm.Cond.instanceMethod ({ cls := "OpenLines$Run", name := "isMaster", desc := "()V" } : Jvm.MethodName)) ∈ lw_all := lw_g (lw_at lw_m8 137 rfl) rfl
theorem q1919 : (Jvm.Cond.code ({ cls := "OpenLines$Run", name := "isMaster", desc := "()V" } : Jvm.MethodName) prog_13_method_15_code (2 : Nat) (Option.none : Option Jvm.ClassFile.FieldType)) ∈ lw_all := lw_g (lw_at lw_m8 138 rfl) rfl
theorem q1920 : (Jvm.Cond.methodLink "OpenLines$Run" (228 : Nat) ({ cls := "java/lang/Math", name := "max", desc := "(II)I" } : Jvm.MethodName)) ∈ lw_all := lw_g (lw_at lw_m8 139 rfl) rfl
theorem q1921 : (Jvm.Cond.methodLink "OpenLines$Run" (252 : Nat) ({ cls := "OpenLines$Run", name := "isPressed", desc := "()Z" } : Jvm.MethodName)) ∈ lw_all := lw_g (lw_at lw_m8 140 rfl) rfl
theorem q1922 : (Jvm.Cond.privateMethod ({ cls := "OpenLines$Run", name := "isPressed", desc := "()Z" } : Jvm.MethodName)) ∈ lw_tbl := lw_at lw_m8 141 rfl
theorem q1923 : (Jvm.Cond.instanceMethod ({ cls := "OpenLines$Run", name := "isPressed", desc := "()Z" } : Jvm.MethodName)) ∈ lw_all := lw_g (lw_at lw_m8 142 rfl) rfl
theorem q1924 : (Jvm.Cond.code ({ cls := "OpenLines$Run", name := "isPressed", desc := "()Z" } : Jvm.MethodName) prog_13_method_16_code (2 : Nat) (Option.some Jvm.ClassFile.FieldType.boolean)) ∈ lw_all := lw_g (lw_at lw_m8 143 rfl) rfl
theorem q1925 : (Jvm.Cond.methodLink "OpenLines$Run" (234 : Nat) ({ cls := "OpenLines$Board", name := "ofTheDay", desc := "(LOpenLines$Run;)I" } : Jvm.MethodName)) ∈ lw_all := lw_g (lw_at lw_m8 144 rfl) rfl
theorem q1926 : (Jvm.Cond.methodLink "OpenLines$Run" (258 : Nat) ({ cls := "OpenLines$Run", name := "begins", desc := "(I)V" } : Jvm.MethodName)) ∈ lw_all := lw_g (lw_at lw_m8 145 rfl) rfl
theorem q1927 : (Jvm.Cond.privateMethod ({ cls := "OpenLines$Run", name := "begins", desc := "(I)V" } : Jvm.MethodName)) ∈ lw_tbl := lw_at lw_m8 146 rfl
theorem q1928 : (Jvm.Cond.instanceMethod ({ cls := "OpenLines$Run", name := "begins", desc := "(I)V" } : Jvm.MethodName)) ∈ lw_all := lw_g (lw_at lw_m8 147 rfl) rfl
theorem q1929 : (Jvm.Cond.code ({ cls := "OpenLines$Run", name := "begins", desc := "(I)V" } : Jvm.MethodName) prog_13_method_9_code (4 : Nat) (Option.none : Option Jvm.ClassFile.FieldType)) ∈ lw_all := lw_g (lw_at lw_m8 148 rfl) rfl
theorem q1930 : (Jvm.Cond.methodLink "OpenLines$Run" (129 : Nat) ({ cls := "OpenLines$Bus", name := "those", desc := "(I)Ljava/lang/Iterable;" } : Jvm.MethodName)) ∈ lw_all := lw_g (lw_at lw_m8 149 rfl) rfl
theorem q1949 : (Jvm.Cond.interfaceEntry "OpenLines$Run" (133 : Nat)) ∈ lw_tbl := lw_at lw_m8 168 rfl
theorem q1950 : (Jvm.Cond.methodLink "OpenLines$Run" (133 : Nat) ({ cls := "java/lang/Iterable", name := "iterator", desc := "()Ljava/util/Iterator;" } : Jvm.MethodName)) ∈ lw_all := lw_g (lw_at lw_m8 169 rfl) rfl
theorem q1997 : (Jvm.Cond.interfaceEntry "OpenLines$Run" (139 : Nat)) ∈ lw_tbl := lw_at lw_m8 216 rfl
theorem q1998 : (Jvm.Cond.methodLink "OpenLines$Run" (139 : Nat) ({ cls := "java/util/Iterator", name := "hasNext", desc := "()Z" } : Jvm.MethodName)) ∈ lw_all := lw_g (lw_at lw_m8 217 rfl) rfl
theorem q2013 : (Jvm.Cond.interfaceEntry "OpenLines$Run" (145 : Nat)) ∈ lw_tbl := lw_at lw_m8 232 rfl
theorem q2014 : (Jvm.Cond.methodLink "OpenLines$Run" (145 : Nat) ({ cls := "java/util/Iterator", name := "next", desc := "()Ljava/lang/Object;" } : Jvm.MethodName)) ∈ lw_all := lw_g (lw_at lw_m8 233 rfl) rfl
theorem q2062 : (Jvm.Cond.classLink "OpenLines$Run" (149 : Nat) "OpenLines$Board") ∈ lw_all := lw_g (lw_at lw_m9 41 rfl) rfl
theorem q2063 : (Jvm.Cond.methodLinkNest "OpenLines$Run" (154 : Nat) ({ cls := "OpenLines", name := "firstWord", desc := "(LOpenLines$Run;LOpenLines$Board;)I" } : Jvm.MethodName) "OpenLines") ∈ lw_tbl := lw_at lw_m9 42 rfl
theorem q2104 : (Jvm.Cond.instanceMethod ({ cls := "OpenLines$Run", name := "toCome", desc := "()I" } : Jvm.MethodName)) ∈ lw_all := lw_g (lw_at lw_m9 83 rfl) rfl
theorem q2105 : (Jvm.Cond.selects "OpenLines$Run" ({ cls := "OpenLines$Run", name := "toCome", desc := "()I" } : Jvm.MethodName) ({ cls := "OpenLines$Run", name := "toCome", desc := "()I" } : Jvm.MethodName)) ∈ lw_all := lw_g (lw_at lw_m9 84 rfl) rfl
theorem q2106 : (Jvm.Cond.code ({ cls := "OpenLines$Run", name := "toCome", desc := "()I" } : Jvm.MethodName) prog_13_method_8_code (3 : Nat) (Option.some Jvm.ClassFile.FieldType.int)) ∈ lw_all := lw_g (lw_at lw_m9 85 rfl) rfl
theorem q2662 : (Jvm.Cond.castable "OpenLines$Run" "java/lang/Object") ∈ lw_tbl := lw_at lw_m11 161 rfl
theorem in_X3 : ∀ w ∈ wsX30, w ∈ lw_all := lw_in wsX30 [289, 291, 293, 295, 297, 299, 301, 303, 305, 307, 309, 311, 313, 315, 317, 319, 321, 323, 325, 327, 329, 331, 333, 335, 337] (by decide +kernel) (by decide +kernel)
/-! OpenLines$Reader -/
set_option maxRecDepth 100000
def RX5 : String := "OpenLines$Reader"
def TX5 : u_T := fun k => match k with
  | 0 => ("OpenLines$Reader", "size", "I", true)
  | 1 => ("OpenLines$Reader", "bus", "LOpenLines$Bus;", true)
  | 2 => ("OpenLines$Reader", "to", "I", false)
  | 3 => ("OpenLines$Reader", "from", "I", false)
  | 4 => ("OpenLines$Reader", "sort", "I", false)
  | 5 => ("OpenLines$Reader", "value", "I", false)
  | 6 => ("OpenLines$Reader", "word", "J", false)
  | _ => ("OpenLines$Reader", "this$0", "LOpenLines;", true)
def tyX5 : Nat → FieldType := fun k => match k with
  | 0 => .int
  | 1 => .object "OpenLines$Bus"
  | 2 => .int
  | 3 => .int
  | 4 => .int
  | 5 => .int
  | 6 => .long
  | _ => .object "OpenLines"
abbrev wsX50 : List Cond := u_ws RX5 TX5 8
theorem nmX5 : ∀ a, a < 8 → ∀ b, b < 8 → a ≠ b → (TX5 a).2.1 ≠ (TX5 b).2.1 := by decide +kernel
theorem tyX5_ok : ∀ k, k < 8 → parseFieldDescriptor (TX5 k).2.2.1 = some (tyX5 k) := by decide +kernel
abbrev cX5_init : ByteArray := prog_12_method_1_code
def yX5_init : MethodName := ⟨RX5, "<init>", "(LOpenLines;I)V"⟩
def dkwX5_init_1 : List UInt8 := [181, 0, 22, 177]
abbrev dktX5_init_1 : List UInt8 := dkwX5_init_1 ++ []
def dkwX5_init_0 : List UInt8 := [42, 43, 181, 0, 3, 42, 183, 0, 9, 42, 187, 0, 15, 89, 183, 0, 17, 181, 0, 18, 42, 28]
abbrev dktX5_init_0 : List UInt8 := dkwX5_init_0 ++ dktX5_init_1
theorem dksX5_init_0 : cX5_init.data.toList.drop 0 = dktX5_init_0 := by decide +kernel
theorem dksX5_init_1 : cX5_init.data.toList.drop 22 = dktX5_init_1 := dk_seg dksX5_init_0 22 rfl rfl
theorem dX5_init_0 : decode cX5_init 0 = .ok (.aload_n 0, 1) := dk_42 (dk_at dksX5_init_0 0 rfl rfl)
theorem dX5_init_1 : decode cX5_init 1 = .ok (.aload_n 1, 1) := dk_43 (dk_at dksX5_init_0 1 rfl rfl)
theorem dX5_init_2 : decode cX5_init 2 = .ok (.putfield 3, 3) := dk_181 0 3 (dk_at dksX5_init_0 2 rfl rfl)
theorem dX5_init_5 : decode cX5_init 5 = .ok (.aload_n 0, 1) := dk_42 (dk_at dksX5_init_0 5 rfl rfl)
theorem dX5_init_6 : decode cX5_init 6 = .ok (.invokespecial 9, 3) := dk_183 0 9 (dk_at dksX5_init_0 6 rfl rfl)
theorem dX5_init_9 : decode cX5_init 9 = .ok (.aload_n 0, 1) := dk_42 (dk_at dksX5_init_0 9 rfl rfl)
theorem dX5_init_10 : decode cX5_init 10 = .ok (.new 15, 3) := dk_187 0 15 (dk_at dksX5_init_0 10 rfl rfl)
theorem dX5_init_13 : decode cX5_init 13 = .ok (.dup, 1) := dk_89 (dk_at dksX5_init_0 13 rfl rfl)
theorem dX5_init_14 : decode cX5_init 14 = .ok (.invokespecial 17, 3) := dk_183 0 17 (dk_at dksX5_init_0 14 rfl rfl)
theorem dX5_init_17 : decode cX5_init 17 = .ok (.putfield 18, 3) := dk_181 0 18 (dk_at dksX5_init_0 17 rfl rfl)
theorem dX5_init_20 : decode cX5_init 20 = .ok (.aload_n 0, 1) := dk_42 (dk_at dksX5_init_0 20 rfl rfl)
theorem dX5_init_21 : decode cX5_init 21 = .ok (.iload_n 2, 1) := dk_28 (dk_at dksX5_init_0 21 rfl rfl)
theorem dX5_init_22 : decode cX5_init 22 = .ok (.putfield 22, 3) := dk_181 0 22 (dk_at dksX5_init_1 0 rfl rfl)
theorem dX5_init_25 : decode cX5_init 25 = .ok (.return_, 1) := dk_177 (dk_at dksX5_init_1 3 rfl rfl)
abbrev cX5_read : ByteArray := prog_12_method_15_code
def yX5_read : MethodName := ⟨RX5, "read", "()LOpenLines$Bus;"⟩
def dkwX5_read_2 : List UInt8 := [180, 0, 18, 182, 0, 112, 158, 0, 7, 4, 167, 0, 4, 3, 16, 6, 182, 0, 86, 42, 180, 0, 18, 176]
abbrev dktX5_read_2 : List UInt8 := dkwX5_read_2 ++ []
def dkwX5_read_1 : List UInt8 := [167, 255, 240, 42, 42, 180, 0, 44, 4, 160, 0, 7, 4, 167, 0, 4, 3, 4, 182, 0, 86, 42, 42]
abbrev dktX5_read_1 : List UInt8 := dkwX5_read_1 ++ dktX5_read_2
def dkwX5_read_0 : List UInt8 := [42, 182, 0, 90, 42, 182, 0, 109, 42, 180, 0, 44, 7, 160, 0, 14, 42, 182, 0, 90, 42, 182, 0, 109]
abbrev dktX5_read_0 : List UInt8 := dkwX5_read_0 ++ dktX5_read_1
theorem dksX5_read_0 : cX5_read.data.toList.drop 0 = dktX5_read_0 := by decide +kernel
theorem dksX5_read_1 : cX5_read.data.toList.drop 24 = dktX5_read_1 := dk_seg dksX5_read_0 24 rfl rfl
theorem dksX5_read_2 : cX5_read.data.toList.drop 47 = dktX5_read_2 := dk_seg dksX5_read_1 23 rfl rfl
theorem dX5_read_0 : decode cX5_read 0 = .ok (.aload_n 0, 1) := dk_42 (dk_at dksX5_read_0 0 rfl rfl)
theorem dX5_read_1 : decode cX5_read 1 = .ok (.invokevirtual 90, 3) := dk_182 0 90 (dk_at dksX5_read_0 1 rfl rfl)
theorem dX5_read_4 : decode cX5_read 4 = .ok (.aload_n 0, 1) := dk_42 (dk_at dksX5_read_0 4 rfl rfl)
theorem dX5_read_5 : decode cX5_read 5 = .ok (.invokevirtual 109, 3) := dk_182 0 109 (dk_at dksX5_read_0 5 rfl rfl)
theorem dX5_read_8 : decode cX5_read 8 = .ok (.aload_n 0, 1) := dk_42 (dk_at dksX5_read_0 8 rfl rfl)
theorem dX5_read_9 : decode cX5_read 9 = .ok (.getfield 44, 3) := dk_180 0 44 (dk_at dksX5_read_0 9 rfl rfl)
theorem dX5_read_12 : decode cX5_read 12 = .ok (.iconst 4, 1) := dk_7 (dk_at dksX5_read_0 12 rfl rfl)
theorem dX5_read_13 : decode cX5_read 13 = .ok (.if_icmp .ne 14, 3) := dk_160 0 14 (dk_at dksX5_read_0 13 rfl rfl)
theorem dX5_read_16 : decode cX5_read 16 = .ok (.aload_n 0, 1) := dk_42 (dk_at dksX5_read_0 16 rfl rfl)
theorem dX5_read_17 : decode cX5_read 17 = .ok (.invokevirtual 90, 3) := dk_182 0 90 (dk_at dksX5_read_0 17 rfl rfl)
theorem dX5_read_20 : decode cX5_read 20 = .ok (.aload_n 0, 1) := dk_42 (dk_at dksX5_read_0 20 rfl rfl)
theorem dX5_read_21 : decode cX5_read 21 = .ok (.invokevirtual 109, 3) := dk_182 0 109 (dk_at dksX5_read_0 21 rfl rfl)
theorem dX5_read_24 : decode cX5_read 24 = .ok (.goto (-16), 3) := dk_167 255 240 (dk_at dksX5_read_1 0 rfl rfl)
theorem dX5_read_27 : decode cX5_read 27 = .ok (.aload_n 0, 1) := dk_42 (dk_at dksX5_read_1 3 rfl rfl)
theorem dX5_read_28 : decode cX5_read 28 = .ok (.aload_n 0, 1) := dk_42 (dk_at dksX5_read_1 4 rfl rfl)
theorem dX5_read_29 : decode cX5_read 29 = .ok (.getfield 44, 3) := dk_180 0 44 (dk_at dksX5_read_1 5 rfl rfl)
theorem dX5_read_32 : decode cX5_read 32 = .ok (.iconst 1, 1) := dk_4 (dk_at dksX5_read_1 8 rfl rfl)
theorem dX5_read_33 : decode cX5_read 33 = .ok (.if_icmp .ne 7, 3) := dk_160 0 7 (dk_at dksX5_read_1 9 rfl rfl)
theorem dX5_read_36 : decode cX5_read 36 = .ok (.iconst 1, 1) := dk_4 (dk_at dksX5_read_1 12 rfl rfl)
theorem dX5_read_37 : decode cX5_read 37 = .ok (.goto 4, 3) := dk_167 0 4 (dk_at dksX5_read_1 13 rfl rfl)
theorem dX5_read_40 : decode cX5_read 40 = .ok (.iconst 0, 1) := dk_3 (dk_at dksX5_read_1 16 rfl rfl)
theorem dX5_read_41 : decode cX5_read 41 = .ok (.iconst 1, 1) := dk_4 (dk_at dksX5_read_1 17 rfl rfl)
theorem dX5_read_42 : decode cX5_read 42 = .ok (.invokevirtual 86, 3) := dk_182 0 86 (dk_at dksX5_read_1 18 rfl rfl)
theorem dX5_read_45 : decode cX5_read 45 = .ok (.aload_n 0, 1) := dk_42 (dk_at dksX5_read_1 21 rfl rfl)
theorem dX5_read_46 : decode cX5_read 46 = .ok (.aload_n 0, 1) := dk_42 (dk_at dksX5_read_1 22 rfl rfl)
theorem dX5_read_47 : decode cX5_read 47 = .ok (.getfield 18, 3) := dk_180 0 18 (dk_at dksX5_read_2 0 rfl rfl)
theorem dX5_read_50 : decode cX5_read 50 = .ok (.invokevirtual 112, 3) := dk_182 0 112 (dk_at dksX5_read_2 3 rfl rfl)
theorem dX5_read_53 : decode cX5_read 53 = .ok (.ifCond .le 7, 3) := dk_158 0 7 (dk_at dksX5_read_2 6 rfl rfl)
theorem dX5_read_56 : decode cX5_read 56 = .ok (.iconst 1, 1) := dk_4 (dk_at dksX5_read_2 9 rfl rfl)
theorem dX5_read_57 : decode cX5_read 57 = .ok (.goto 4, 3) := dk_167 0 4 (dk_at dksX5_read_2 10 rfl rfl)
theorem dX5_read_60 : decode cX5_read 60 = .ok (.iconst 0, 1) := dk_3 (dk_at dksX5_read_2 13 rfl rfl)
theorem dX5_read_61 : decode cX5_read 61 = .ok (.bipush 6, 2) := dk_16 6 (dk_at dksX5_read_2 14 rfl rfl)
theorem dX5_read_63 : decode cX5_read 63 = .ok (.invokevirtual 86, 3) := dk_182 0 86 (dk_at dksX5_read_2 16 rfl rfl)
theorem dX5_read_66 : decode cX5_read 66 = .ok (.aload_n 0, 1) := dk_42 (dk_at dksX5_read_2 19 rfl rfl)
theorem dX5_read_67 : decode cX5_read 67 = .ok (.getfield 18, 3) := dk_180 0 18 (dk_at dksX5_read_2 20 rfl rfl)
theorem dX5_read_70 : decode cX5_read 70 = .ok (.areturn, 1) := dk_176 (dk_at dksX5_read_2 23 rfl rfl)
abbrev cX5_go : ByteArray := prog_12_method_5_code
def yX5_go : MethodName := ⟨RX5, "go", "()V"⟩
def dkwX5_go_5 : List UInt8 := [167, 0, 4, 3, 181, 0, 44, 42, 89, 180, 0, 38, 4, 96, 181, 0, 38, 177]
abbrev dktX5_go_5 : List UInt8 := dkwX5_go_5 ++ []
def dkwX5_go_4 : List UInt8 := [42, 182, 0, 57, 167, 0, 35, 42, 42, 42, 180, 0, 38, 182, 0, 30, 16, 59, 160, 0, 7, 7]
abbrev dktX5_go_4 : List UInt8 := dkwX5_go_4 ++ dktX5_go_5
def dkwX5_go_3 : List UInt8 := [182, 0, 47, 153, 0, 10, 42, 182, 0, 51, 167, 0, 53, 42, 42, 180, 0, 38, 182, 0, 54, 153, 0, 10]
abbrev dktX5_go_3 : List UInt8 := dkwX5_go_3 ++ dktX5_go_4
def dkwX5_go_2 : List UInt8 := [180, 0, 38, 42, 180, 0, 22, 161, 0, 11, 42, 4, 181, 0, 44, 167, 0, 71, 42, 42, 180, 0, 38]
abbrev dktX5_go_2 : List UInt8 := dkwX5_go_2 ++ dktX5_go_3
def dkwX5_go_1 : List UInt8 := [42, 89, 180, 0, 38, 4, 96, 181, 0, 38, 167, 255, 222, 42, 42, 180, 0, 38, 181, 0, 41, 42]
abbrev dktX5_go_1 : List UInt8 := dkwX5_go_1 ++ dktX5_go_2
def dkwX5_go_0 : List UInt8 := [42, 180, 0, 38, 42, 180, 0, 22, 162, 0, 29, 42, 42, 180, 0, 38, 182, 0, 30, 16, 32, 160, 0, 16]
abbrev dktX5_go_0 : List UInt8 := dkwX5_go_0 ++ dktX5_go_1
theorem dksX5_go_0 : cX5_go.data.toList.drop 0 = dktX5_go_0 := by decide +kernel
theorem dksX5_go_1 : cX5_go.data.toList.drop 24 = dktX5_go_1 := dk_seg dksX5_go_0 24 rfl rfl
theorem dksX5_go_2 : cX5_go.data.toList.drop 46 = dktX5_go_2 := dk_seg dksX5_go_1 22 rfl rfl
theorem dksX5_go_3 : cX5_go.data.toList.drop 69 = dktX5_go_3 := dk_seg dksX5_go_2 23 rfl rfl
theorem dksX5_go_4 : cX5_go.data.toList.drop 93 = dktX5_go_4 := dk_seg dksX5_go_3 24 rfl rfl
theorem dksX5_go_5 : cX5_go.data.toList.drop 115 = dktX5_go_5 := dk_seg dksX5_go_4 22 rfl rfl
theorem dX5_go_0 : decode cX5_go 0 = .ok (.aload_n 0, 1) := dk_42 (dk_at dksX5_go_0 0 rfl rfl)
theorem dX5_go_1 : decode cX5_go 1 = .ok (.getfield 38, 3) := dk_180 0 38 (dk_at dksX5_go_0 1 rfl rfl)
theorem dX5_go_4 : decode cX5_go 4 = .ok (.aload_n 0, 1) := dk_42 (dk_at dksX5_go_0 4 rfl rfl)
theorem dX5_go_5 : decode cX5_go 5 = .ok (.getfield 22, 3) := dk_180 0 22 (dk_at dksX5_go_0 5 rfl rfl)
theorem dX5_go_8 : decode cX5_go 8 = .ok (.if_icmp .ge 29, 3) := dk_162 0 29 (dk_at dksX5_go_0 8 rfl rfl)
theorem dX5_go_11 : decode cX5_go 11 = .ok (.aload_n 0, 1) := dk_42 (dk_at dksX5_go_0 11 rfl rfl)
theorem dX5_go_12 : decode cX5_go 12 = .ok (.aload_n 0, 1) := dk_42 (dk_at dksX5_go_0 12 rfl rfl)
theorem dX5_go_13 : decode cX5_go 13 = .ok (.getfield 38, 3) := dk_180 0 38 (dk_at dksX5_go_0 13 rfl rfl)
theorem dX5_go_16 : decode cX5_go 16 = .ok (.invokevirtual 30, 3) := dk_182 0 30 (dk_at dksX5_go_0 16 rfl rfl)
theorem dX5_go_19 : decode cX5_go 19 = .ok (.bipush 32, 2) := dk_16 32 (dk_at dksX5_go_0 19 rfl rfl)
theorem dX5_go_21 : decode cX5_go 21 = .ok (.if_icmp .ne 16, 3) := dk_160 0 16 (dk_at dksX5_go_0 21 rfl rfl)
theorem dX5_go_24 : decode cX5_go 24 = .ok (.aload_n 0, 1) := dk_42 (dk_at dksX5_go_1 0 rfl rfl)
theorem dX5_go_25 : decode cX5_go 25 = .ok (.dup, 1) := dk_89 (dk_at dksX5_go_1 1 rfl rfl)
theorem dX5_go_26 : decode cX5_go 26 = .ok (.getfield 38, 3) := dk_180 0 38 (dk_at dksX5_go_1 2 rfl rfl)
theorem dX5_go_29 : decode cX5_go 29 = .ok (.iconst 1, 1) := dk_4 (dk_at dksX5_go_1 5 rfl rfl)
theorem dX5_go_30 : decode cX5_go 30 = .ok (.iadd, 1) := dk_96 (dk_at dksX5_go_1 6 rfl rfl)
theorem dX5_go_31 : decode cX5_go 31 = .ok (.putfield 38, 3) := dk_181 0 38 (dk_at dksX5_go_1 7 rfl rfl)
theorem dX5_go_34 : decode cX5_go 34 = .ok (.goto (-34), 3) := dk_167 255 222 (dk_at dksX5_go_1 10 rfl rfl)
theorem dX5_go_37 : decode cX5_go 37 = .ok (.aload_n 0, 1) := dk_42 (dk_at dksX5_go_1 13 rfl rfl)
theorem dX5_go_38 : decode cX5_go 38 = .ok (.aload_n 0, 1) := dk_42 (dk_at dksX5_go_1 14 rfl rfl)
theorem dX5_go_39 : decode cX5_go 39 = .ok (.getfield 38, 3) := dk_180 0 38 (dk_at dksX5_go_1 15 rfl rfl)
theorem dX5_go_42 : decode cX5_go 42 = .ok (.putfield 41, 3) := dk_181 0 41 (dk_at dksX5_go_1 18 rfl rfl)
theorem dX5_go_45 : decode cX5_go 45 = .ok (.aload_n 0, 1) := dk_42 (dk_at dksX5_go_1 21 rfl rfl)
theorem dX5_go_46 : decode cX5_go 46 = .ok (.getfield 38, 3) := dk_180 0 38 (dk_at dksX5_go_2 0 rfl rfl)
theorem dX5_go_49 : decode cX5_go 49 = .ok (.aload_n 0, 1) := dk_42 (dk_at dksX5_go_2 3 rfl rfl)
theorem dX5_go_50 : decode cX5_go 50 = .ok (.getfield 22, 3) := dk_180 0 22 (dk_at dksX5_go_2 4 rfl rfl)
theorem dX5_go_53 : decode cX5_go 53 = .ok (.if_icmp .lt 11, 3) := dk_161 0 11 (dk_at dksX5_go_2 7 rfl rfl)
theorem dX5_go_56 : decode cX5_go 56 = .ok (.aload_n 0, 1) := dk_42 (dk_at dksX5_go_2 10 rfl rfl)
theorem dX5_go_57 : decode cX5_go 57 = .ok (.iconst 1, 1) := dk_4 (dk_at dksX5_go_2 11 rfl rfl)
theorem dX5_go_58 : decode cX5_go 58 = .ok (.putfield 44, 3) := dk_181 0 44 (dk_at dksX5_go_2 12 rfl rfl)
theorem dX5_go_61 : decode cX5_go 61 = .ok (.goto 71, 3) := dk_167 0 71 (dk_at dksX5_go_2 15 rfl rfl)
theorem dX5_go_64 : decode cX5_go 64 = .ok (.aload_n 0, 1) := dk_42 (dk_at dksX5_go_2 18 rfl rfl)
theorem dX5_go_65 : decode cX5_go 65 = .ok (.aload_n 0, 1) := dk_42 (dk_at dksX5_go_2 19 rfl rfl)
theorem dX5_go_66 : decode cX5_go 66 = .ok (.getfield 38, 3) := dk_180 0 38 (dk_at dksX5_go_2 20 rfl rfl)
theorem dX5_go_69 : decode cX5_go 69 = .ok (.invokevirtual 47, 3) := dk_182 0 47 (dk_at dksX5_go_3 0 rfl rfl)
theorem dX5_go_72 : decode cX5_go 72 = .ok (.ifCond .eq 10, 3) := dk_153 0 10 (dk_at dksX5_go_3 3 rfl rfl)
theorem dX5_go_75 : decode cX5_go 75 = .ok (.aload_n 0, 1) := dk_42 (dk_at dksX5_go_3 6 rfl rfl)
theorem dX5_go_76 : decode cX5_go 76 = .ok (.invokevirtual 51, 3) := dk_182 0 51 (dk_at dksX5_go_3 7 rfl rfl)
theorem dX5_go_79 : decode cX5_go 79 = .ok (.goto 53, 3) := dk_167 0 53 (dk_at dksX5_go_3 10 rfl rfl)
theorem dX5_go_82 : decode cX5_go 82 = .ok (.aload_n 0, 1) := dk_42 (dk_at dksX5_go_3 13 rfl rfl)
theorem dX5_go_83 : decode cX5_go 83 = .ok (.aload_n 0, 1) := dk_42 (dk_at dksX5_go_3 14 rfl rfl)
theorem dX5_go_84 : decode cX5_go 84 = .ok (.getfield 38, 3) := dk_180 0 38 (dk_at dksX5_go_3 15 rfl rfl)
theorem dX5_go_87 : decode cX5_go 87 = .ok (.invokevirtual 54, 3) := dk_182 0 54 (dk_at dksX5_go_3 18 rfl rfl)
theorem dX5_go_90 : decode cX5_go 90 = .ok (.ifCond .eq 10, 3) := dk_153 0 10 (dk_at dksX5_go_3 21 rfl rfl)
theorem dX5_go_93 : decode cX5_go 93 = .ok (.aload_n 0, 1) := dk_42 (dk_at dksX5_go_4 0 rfl rfl)
theorem dX5_go_94 : decode cX5_go 94 = .ok (.invokevirtual 57, 3) := dk_182 0 57 (dk_at dksX5_go_4 1 rfl rfl)
theorem dX5_go_97 : decode cX5_go 97 = .ok (.goto 35, 3) := dk_167 0 35 (dk_at dksX5_go_4 4 rfl rfl)
theorem dX5_go_100 : decode cX5_go 100 = .ok (.aload_n 0, 1) := dk_42 (dk_at dksX5_go_4 7 rfl rfl)
theorem dX5_go_101 : decode cX5_go 101 = .ok (.aload_n 0, 1) := dk_42 (dk_at dksX5_go_4 8 rfl rfl)
theorem dX5_go_102 : decode cX5_go 102 = .ok (.aload_n 0, 1) := dk_42 (dk_at dksX5_go_4 9 rfl rfl)
theorem dX5_go_103 : decode cX5_go 103 = .ok (.getfield 38, 3) := dk_180 0 38 (dk_at dksX5_go_4 10 rfl rfl)
theorem dX5_go_106 : decode cX5_go 106 = .ok (.invokevirtual 30, 3) := dk_182 0 30 (dk_at dksX5_go_4 13 rfl rfl)
theorem dX5_go_109 : decode cX5_go 109 = .ok (.bipush 59, 2) := dk_16 59 (dk_at dksX5_go_4 16 rfl rfl)
theorem dX5_go_111 : decode cX5_go 111 = .ok (.if_icmp .ne 7, 3) := dk_160 0 7 (dk_at dksX5_go_4 18 rfl rfl)
theorem dX5_go_114 : decode cX5_go 114 = .ok (.iconst 4, 1) := dk_7 (dk_at dksX5_go_4 21 rfl rfl)
theorem dX5_go_115 : decode cX5_go 115 = .ok (.goto 4, 3) := dk_167 0 4 (dk_at dksX5_go_5 0 rfl rfl)
theorem dX5_go_118 : decode cX5_go 118 = .ok (.iconst 0, 1) := dk_3 (dk_at dksX5_go_5 3 rfl rfl)
theorem dX5_go_119 : decode cX5_go 119 = .ok (.putfield 44, 3) := dk_181 0 44 (dk_at dksX5_go_5 4 rfl rfl)
theorem dX5_go_122 : decode cX5_go 122 = .ok (.aload_n 0, 1) := dk_42 (dk_at dksX5_go_5 7 rfl rfl)
theorem dX5_go_123 : decode cX5_go 123 = .ok (.dup, 1) := dk_89 (dk_at dksX5_go_5 8 rfl rfl)
theorem dX5_go_124 : decode cX5_go 124 = .ok (.getfield 38, 3) := dk_180 0 38 (dk_at dksX5_go_5 9 rfl rfl)
theorem dX5_go_127 : decode cX5_go 127 = .ok (.iconst 1, 1) := dk_4 (dk_at dksX5_go_5 12 rfl rfl)
theorem dX5_go_128 : decode cX5_go 128 = .ok (.iadd, 1) := dk_96 (dk_at dksX5_go_5 13 rfl rfl)
theorem dX5_go_129 : decode cX5_go 129 = .ok (.putfield 38, 3) := dk_181 0 38 (dk_at dksX5_go_5 14 rfl rfl)
theorem dX5_go_132 : decode cX5_go 132 = .ok (.return_, 1) := dk_177 (dk_at dksX5_go_5 17 rfl rfl)
abbrev cX5_byteAt : ByteArray := prog_12_method_2_code
def yX5_byteAt : MethodName := ⟨RX5, "byteAt", "(I)I"⟩
def dkwX5_byteAt_1 : List UInt8 := [3, 172]
abbrev dktX5_byteAt_1 : List UInt8 := dkwX5_byteAt_1 ++ []
def dkwX5_byteAt_0 : List UInt8 := [27, 42, 180, 0, 22, 162, 0, 19, 42, 180, 0, 3, 180, 0, 26, 27, 51, 17, 0, 255, 126, 167, 0, 4]
abbrev dktX5_byteAt_0 : List UInt8 := dkwX5_byteAt_0 ++ dktX5_byteAt_1
theorem dksX5_byteAt_0 : cX5_byteAt.data.toList.drop 0 = dktX5_byteAt_0 := by decide +kernel
theorem dksX5_byteAt_1 : cX5_byteAt.data.toList.drop 24 = dktX5_byteAt_1 := dk_seg dksX5_byteAt_0 24 rfl rfl
theorem dX5_byteAt_0 : decode cX5_byteAt 0 = .ok (.iload_n 1, 1) := dk_27 (dk_at dksX5_byteAt_0 0 rfl rfl)
theorem dX5_byteAt_1 : decode cX5_byteAt 1 = .ok (.aload_n 0, 1) := dk_42 (dk_at dksX5_byteAt_0 1 rfl rfl)
theorem dX5_byteAt_2 : decode cX5_byteAt 2 = .ok (.getfield 22, 3) := dk_180 0 22 (dk_at dksX5_byteAt_0 2 rfl rfl)
theorem dX5_byteAt_5 : decode cX5_byteAt 5 = .ok (.if_icmp .ge 19, 3) := dk_162 0 19 (dk_at dksX5_byteAt_0 5 rfl rfl)
theorem dX5_byteAt_8 : decode cX5_byteAt 8 = .ok (.aload_n 0, 1) := dk_42 (dk_at dksX5_byteAt_0 8 rfl rfl)
theorem dX5_byteAt_9 : decode cX5_byteAt 9 = .ok (.getfield 3, 3) := dk_180 0 3 (dk_at dksX5_byteAt_0 9 rfl rfl)
theorem dX5_byteAt_12 : decode cX5_byteAt 12 = .ok (.getfield 26, 3) := dk_180 0 26 (dk_at dksX5_byteAt_0 12 rfl rfl)
theorem dX5_byteAt_15 : decode cX5_byteAt 15 = .ok (.iload_n 1, 1) := dk_27 (dk_at dksX5_byteAt_0 15 rfl rfl)
theorem dX5_byteAt_16 : decode cX5_byteAt 16 = .ok (.baload, 1) := dk_51 (dk_at dksX5_byteAt_0 16 rfl rfl)
theorem dX5_byteAt_17 : decode cX5_byteAt 17 = .ok (.sipush 255, 3) := dk_17 0 255 (dk_at dksX5_byteAt_0 17 rfl rfl)
theorem dX5_byteAt_20 : decode cX5_byteAt 20 = .ok (.iand, 1) := dk_126 (dk_at dksX5_byteAt_0 20 rfl rfl)
theorem dX5_byteAt_21 : decode cX5_byteAt 21 = .ok (.goto 4, 3) := dk_167 0 4 (dk_at dksX5_byteAt_0 21 rfl rfl)
theorem dX5_byteAt_24 : decode cX5_byteAt 24 = .ok (.iconst 0, 1) := dk_3 (dk_at dksX5_byteAt_1 0 rfl rfl)
theorem dX5_byteAt_25 : decode cX5_byteAt 25 = .ok (.ireturn, 1) := dk_172 (dk_at dksX5_byteAt_1 1 rfl rfl)
abbrev cX5_isLetter : ByteArray := prog_12_method_3_code
def yX5_isLetter : MethodName := ⟨RX5, "isLetter", "(I)Z"⟩
def dkwX5_isLetter_0 : List UInt8 := [42, 27, 182, 0, 30, 16, 97, 16, 122, 184, 0, 34, 172]
abbrev dktX5_isLetter_0 : List UInt8 := dkwX5_isLetter_0 ++ []
theorem dksX5_isLetter_0 : cX5_isLetter.data.toList.drop 0 = dktX5_isLetter_0 := by decide +kernel
theorem dX5_isLetter_0 : decode cX5_isLetter 0 = .ok (.aload_n 0, 1) := dk_42 (dk_at dksX5_isLetter_0 0 rfl rfl)
theorem dX5_isLetter_1 : decode cX5_isLetter 1 = .ok (.iload_n 1, 1) := dk_27 (dk_at dksX5_isLetter_0 1 rfl rfl)
theorem dX5_isLetter_2 : decode cX5_isLetter 2 = .ok (.invokevirtual 30, 3) := dk_182 0 30 (dk_at dksX5_isLetter_0 2 rfl rfl)
theorem dX5_isLetter_5 : decode cX5_isLetter 5 = .ok (.bipush 97, 2) := dk_16 97 (dk_at dksX5_isLetter_0 5 rfl rfl)
theorem dX5_isLetter_7 : decode cX5_isLetter 7 = .ok (.bipush 122, 2) := dk_16 122 (dk_at dksX5_isLetter_0 7 rfl rfl)
theorem dX5_isLetter_9 : decode cX5_isLetter 9 = .ok (.invokestatic 34, 3) := dk_184 0 34 (dk_at dksX5_isLetter_0 9 rfl rfl)
theorem dX5_isLetter_12 : decode cX5_isLetter 12 = .ok (.ireturn, 1) := dk_172 (dk_at dksX5_isLetter_0 12 rfl rfl)
abbrev cX5_goWord : ByteArray := prog_12_method_6_code
def yX5_goWord : MethodName := ⟨RX5, "goWord", "()V"⟩
def dkwX5_goWord_3 : List UInt8 := [180, 0, 41, 100, 16, 6, 164, 0, 7, 3, 167, 0, 4, 5, 181, 0, 44, 177]
abbrev dktX5_goWord_3 : List UInt8 := dkwX5_goWord_3 ++ []
def dkwX5_goWord_2 : List UInt8 := [181, 0, 60, 42, 89, 180, 0, 38, 4, 96, 181, 0, 38, 167, 255, 200, 42, 42, 180, 0, 38, 42]
abbrev dktX5_goWord_2 : List UInt8 := dkwX5_goWord_2 ++ dktX5_goWord_3
def dkwX5_goWord_1 : List UInt8 := [100, 16, 6, 162, 0, 24, 42, 42, 180, 0, 60, 16, 8, 121, 42, 42, 180, 0, 38, 182, 0, 30, 133, 129]
abbrev dktX5_goWord_1 : List UInt8 := dkwX5_goWord_1 ++ dktX5_goWord_2
def dkwX5_goWord_0 : List UInt8 := [42, 9, 181, 0, 60, 42, 42, 180, 0, 38, 182, 0, 47, 153, 0, 51, 42, 180, 0, 38, 42, 180, 0, 41]
abbrev dktX5_goWord_0 : List UInt8 := dkwX5_goWord_0 ++ dktX5_goWord_1
theorem dksX5_goWord_0 : cX5_goWord.data.toList.drop 0 = dktX5_goWord_0 := by decide +kernel
theorem dksX5_goWord_1 : cX5_goWord.data.toList.drop 24 = dktX5_goWord_1 := dk_seg dksX5_goWord_0 24 rfl rfl
theorem dksX5_goWord_2 : cX5_goWord.data.toList.drop 48 = dktX5_goWord_2 := dk_seg dksX5_goWord_1 24 rfl rfl
theorem dksX5_goWord_3 : cX5_goWord.data.toList.drop 70 = dktX5_goWord_3 := dk_seg dksX5_goWord_2 22 rfl rfl
theorem dX5_goWord_0 : decode cX5_goWord 0 = .ok (.aload_n 0, 1) := dk_42 (dk_at dksX5_goWord_0 0 rfl rfl)
theorem dX5_goWord_1 : decode cX5_goWord 1 = .ok (.lconst 0, 1) := dk_9 (dk_at dksX5_goWord_0 1 rfl rfl)
theorem dX5_goWord_2 : decode cX5_goWord 2 = .ok (.putfield 60, 3) := dk_181 0 60 (dk_at dksX5_goWord_0 2 rfl rfl)
theorem dX5_goWord_5 : decode cX5_goWord 5 = .ok (.aload_n 0, 1) := dk_42 (dk_at dksX5_goWord_0 5 rfl rfl)
theorem dX5_goWord_6 : decode cX5_goWord 6 = .ok (.aload_n 0, 1) := dk_42 (dk_at dksX5_goWord_0 6 rfl rfl)
theorem dX5_goWord_7 : decode cX5_goWord 7 = .ok (.getfield 38, 3) := dk_180 0 38 (dk_at dksX5_goWord_0 7 rfl rfl)
theorem dX5_goWord_10 : decode cX5_goWord 10 = .ok (.invokevirtual 47, 3) := dk_182 0 47 (dk_at dksX5_goWord_0 10 rfl rfl)
theorem dX5_goWord_13 : decode cX5_goWord 13 = .ok (.ifCond .eq 51, 3) := dk_153 0 51 (dk_at dksX5_goWord_0 13 rfl rfl)
theorem dX5_goWord_16 : decode cX5_goWord 16 = .ok (.aload_n 0, 1) := dk_42 (dk_at dksX5_goWord_0 16 rfl rfl)
theorem dX5_goWord_17 : decode cX5_goWord 17 = .ok (.getfield 38, 3) := dk_180 0 38 (dk_at dksX5_goWord_0 17 rfl rfl)
theorem dX5_goWord_20 : decode cX5_goWord 20 = .ok (.aload_n 0, 1) := dk_42 (dk_at dksX5_goWord_0 20 rfl rfl)
theorem dX5_goWord_21 : decode cX5_goWord 21 = .ok (.getfield 41, 3) := dk_180 0 41 (dk_at dksX5_goWord_0 21 rfl rfl)
theorem dX5_goWord_24 : decode cX5_goWord 24 = .ok (.isub, 1) := dk_100 (dk_at dksX5_goWord_1 0 rfl rfl)
theorem dX5_goWord_25 : decode cX5_goWord 25 = .ok (.bipush 6, 2) := dk_16 6 (dk_at dksX5_goWord_1 1 rfl rfl)
theorem dX5_goWord_27 : decode cX5_goWord 27 = .ok (.if_icmp .ge 24, 3) := dk_162 0 24 (dk_at dksX5_goWord_1 3 rfl rfl)
theorem dX5_goWord_30 : decode cX5_goWord 30 = .ok (.aload_n 0, 1) := dk_42 (dk_at dksX5_goWord_1 6 rfl rfl)
theorem dX5_goWord_31 : decode cX5_goWord 31 = .ok (.aload_n 0, 1) := dk_42 (dk_at dksX5_goWord_1 7 rfl rfl)
theorem dX5_goWord_32 : decode cX5_goWord 32 = .ok (.getfield 60, 3) := dk_180 0 60 (dk_at dksX5_goWord_1 8 rfl rfl)
theorem dX5_goWord_35 : decode cX5_goWord 35 = .ok (.bipush 8, 2) := dk_16 8 (dk_at dksX5_goWord_1 11 rfl rfl)
theorem dX5_goWord_37 : decode cX5_goWord 37 = .ok (.lshl, 1) := dk_121 (dk_at dksX5_goWord_1 13 rfl rfl)
theorem dX5_goWord_38 : decode cX5_goWord 38 = .ok (.aload_n 0, 1) := dk_42 (dk_at dksX5_goWord_1 14 rfl rfl)
theorem dX5_goWord_39 : decode cX5_goWord 39 = .ok (.aload_n 0, 1) := dk_42 (dk_at dksX5_goWord_1 15 rfl rfl)
theorem dX5_goWord_40 : decode cX5_goWord 40 = .ok (.getfield 38, 3) := dk_180 0 38 (dk_at dksX5_goWord_1 16 rfl rfl)
theorem dX5_goWord_43 : decode cX5_goWord 43 = .ok (.invokevirtual 30, 3) := dk_182 0 30 (dk_at dksX5_goWord_1 19 rfl rfl)
theorem dX5_goWord_46 : decode cX5_goWord 46 = .ok (.i2l, 1) := dk_133 (dk_at dksX5_goWord_1 22 rfl rfl)
theorem dX5_goWord_47 : decode cX5_goWord 47 = .ok (.lor, 1) := dk_129 (dk_at dksX5_goWord_1 23 rfl rfl)
theorem dX5_goWord_48 : decode cX5_goWord 48 = .ok (.putfield 60, 3) := dk_181 0 60 (dk_at dksX5_goWord_2 0 rfl rfl)
theorem dX5_goWord_51 : decode cX5_goWord 51 = .ok (.aload_n 0, 1) := dk_42 (dk_at dksX5_goWord_2 3 rfl rfl)
theorem dX5_goWord_52 : decode cX5_goWord 52 = .ok (.dup, 1) := dk_89 (dk_at dksX5_goWord_2 4 rfl rfl)
theorem dX5_goWord_53 : decode cX5_goWord 53 = .ok (.getfield 38, 3) := dk_180 0 38 (dk_at dksX5_goWord_2 5 rfl rfl)
theorem dX5_goWord_56 : decode cX5_goWord 56 = .ok (.iconst 1, 1) := dk_4 (dk_at dksX5_goWord_2 8 rfl rfl)
theorem dX5_goWord_57 : decode cX5_goWord 57 = .ok (.iadd, 1) := dk_96 (dk_at dksX5_goWord_2 9 rfl rfl)
theorem dX5_goWord_58 : decode cX5_goWord 58 = .ok (.putfield 38, 3) := dk_181 0 38 (dk_at dksX5_goWord_2 10 rfl rfl)
theorem dX5_goWord_61 : decode cX5_goWord 61 = .ok (.goto (-56), 3) := dk_167 255 200 (dk_at dksX5_goWord_2 13 rfl rfl)
theorem dX5_goWord_64 : decode cX5_goWord 64 = .ok (.aload_n 0, 1) := dk_42 (dk_at dksX5_goWord_2 16 rfl rfl)
theorem dX5_goWord_65 : decode cX5_goWord 65 = .ok (.aload_n 0, 1) := dk_42 (dk_at dksX5_goWord_2 17 rfl rfl)
theorem dX5_goWord_66 : decode cX5_goWord 66 = .ok (.getfield 38, 3) := dk_180 0 38 (dk_at dksX5_goWord_2 18 rfl rfl)
theorem dX5_goWord_69 : decode cX5_goWord 69 = .ok (.aload_n 0, 1) := dk_42 (dk_at dksX5_goWord_2 21 rfl rfl)
theorem dX5_goWord_70 : decode cX5_goWord 70 = .ok (.getfield 41, 3) := dk_180 0 41 (dk_at dksX5_goWord_3 0 rfl rfl)
theorem dX5_goWord_73 : decode cX5_goWord 73 = .ok (.isub, 1) := dk_100 (dk_at dksX5_goWord_3 3 rfl rfl)
theorem dX5_goWord_74 : decode cX5_goWord 74 = .ok (.bipush 6, 2) := dk_16 6 (dk_at dksX5_goWord_3 4 rfl rfl)
theorem dX5_goWord_76 : decode cX5_goWord 76 = .ok (.if_icmp .le 7, 3) := dk_164 0 7 (dk_at dksX5_goWord_3 6 rfl rfl)
theorem dX5_goWord_79 : decode cX5_goWord 79 = .ok (.iconst 0, 1) := dk_3 (dk_at dksX5_goWord_3 9 rfl rfl)
theorem dX5_goWord_80 : decode cX5_goWord 80 = .ok (.goto 4, 3) := dk_167 0 4 (dk_at dksX5_goWord_3 10 rfl rfl)
theorem dX5_goWord_83 : decode cX5_goWord 83 = .ok (.iconst 2, 1) := dk_5 (dk_at dksX5_goWord_3 13 rfl rfl)
theorem dX5_goWord_84 : decode cX5_goWord 84 = .ok (.putfield 44, 3) := dk_181 0 44 (dk_at dksX5_goWord_3 14 rfl rfl)
theorem dX5_goWord_87 : decode cX5_goWord 87 = .ok (.return_, 1) := dk_177 (dk_at dksX5_goWord_3 17 rfl rfl)
abbrev cX5_isDigit : ByteArray := prog_12_method_4_code
def yX5_isDigit : MethodName := ⟨RX5, "isDigit", "(I)Z"⟩
def dkwX5_isDigit_0 : List UInt8 := [42, 27, 182, 0, 30, 16, 48, 16, 57, 184, 0, 34, 172]
abbrev dktX5_isDigit_0 : List UInt8 := dkwX5_isDigit_0 ++ []
theorem dksX5_isDigit_0 : cX5_isDigit.data.toList.drop 0 = dktX5_isDigit_0 := by decide +kernel
theorem dX5_isDigit_0 : decode cX5_isDigit 0 = .ok (.aload_n 0, 1) := dk_42 (dk_at dksX5_isDigit_0 0 rfl rfl)
theorem dX5_isDigit_1 : decode cX5_isDigit 1 = .ok (.iload_n 1, 1) := dk_27 (dk_at dksX5_isDigit_0 1 rfl rfl)
theorem dX5_isDigit_2 : decode cX5_isDigit 2 = .ok (.invokevirtual 30, 3) := dk_182 0 30 (dk_at dksX5_isDigit_0 2 rfl rfl)
theorem dX5_isDigit_5 : decode cX5_isDigit 5 = .ok (.bipush 48, 2) := dk_16 48 (dk_at dksX5_isDigit_0 5 rfl rfl)
theorem dX5_isDigit_7 : decode cX5_isDigit 7 = .ok (.bipush 57, 2) := dk_16 57 (dk_at dksX5_isDigit_0 7 rfl rfl)
theorem dX5_isDigit_9 : decode cX5_isDigit 9 = .ok (.invokestatic 34, 3) := dk_184 0 34 (dk_at dksX5_isDigit_0 9 rfl rfl)
theorem dX5_isDigit_12 : decode cX5_isDigit 12 = .ok (.ireturn, 1) := dk_172 (dk_at dksX5_isDigit_0 12 rfl rfl)
abbrev cX5_goNumber : ByteArray := prog_12_method_7_code
def yX5_goNumber : MethodName := ⟨RX5, "goNumber", "()V"⟩
def dkwX5_goNumber_3 : List UInt8 := [180, 0, 41, 100, 6, 164, 0, 7, 3, 167, 0, 4, 6, 181, 0, 44, 177]
abbrev dktX5_goNumber_3 : List UInt8 := dkwX5_goNumber_3 ++ []
def dkwX5_goNumber_2 : List UInt8 := [100, 181, 0, 64, 42, 89, 180, 0, 38, 4, 96, 181, 0, 38, 167, 255, 199, 42, 42, 180, 0, 38, 42]
abbrev dktX5_goNumber_2 : List UInt8 := dkwX5_goNumber_2 ++ dktX5_goNumber_3
def dkwX5_goNumber_1 : List UInt8 := [100, 6, 162, 0, 26, 42, 16, 10, 42, 180, 0, 64, 104, 42, 42, 180, 0, 38, 182, 0, 30, 96, 16, 48]
abbrev dktX5_goNumber_1 : List UInt8 := dkwX5_goNumber_1 ++ dktX5_goNumber_2
def dkwX5_goNumber_0 : List UInt8 := [42, 3, 181, 0, 64, 42, 42, 180, 0, 38, 182, 0, 54, 153, 0, 52, 42, 180, 0, 38, 42, 180, 0, 41]
abbrev dktX5_goNumber_0 : List UInt8 := dkwX5_goNumber_0 ++ dktX5_goNumber_1
theorem dksX5_goNumber_0 : cX5_goNumber.data.toList.drop 0 = dktX5_goNumber_0 := by decide +kernel
theorem dksX5_goNumber_1 : cX5_goNumber.data.toList.drop 24 = dktX5_goNumber_1 := dk_seg dksX5_goNumber_0 24 rfl rfl
theorem dksX5_goNumber_2 : cX5_goNumber.data.toList.drop 48 = dktX5_goNumber_2 := dk_seg dksX5_goNumber_1 24 rfl rfl
theorem dksX5_goNumber_3 : cX5_goNumber.data.toList.drop 71 = dktX5_goNumber_3 := dk_seg dksX5_goNumber_2 23 rfl rfl
theorem dX5_goNumber_0 : decode cX5_goNumber 0 = .ok (.aload_n 0, 1) := dk_42 (dk_at dksX5_goNumber_0 0 rfl rfl)
theorem dX5_goNumber_1 : decode cX5_goNumber 1 = .ok (.iconst 0, 1) := dk_3 (dk_at dksX5_goNumber_0 1 rfl rfl)
theorem dX5_goNumber_2 : decode cX5_goNumber 2 = .ok (.putfield 64, 3) := dk_181 0 64 (dk_at dksX5_goNumber_0 2 rfl rfl)
theorem dX5_goNumber_5 : decode cX5_goNumber 5 = .ok (.aload_n 0, 1) := dk_42 (dk_at dksX5_goNumber_0 5 rfl rfl)
theorem dX5_goNumber_6 : decode cX5_goNumber 6 = .ok (.aload_n 0, 1) := dk_42 (dk_at dksX5_goNumber_0 6 rfl rfl)
theorem dX5_goNumber_7 : decode cX5_goNumber 7 = .ok (.getfield 38, 3) := dk_180 0 38 (dk_at dksX5_goNumber_0 7 rfl rfl)
theorem dX5_goNumber_10 : decode cX5_goNumber 10 = .ok (.invokevirtual 54, 3) := dk_182 0 54 (dk_at dksX5_goNumber_0 10 rfl rfl)
theorem dX5_goNumber_13 : decode cX5_goNumber 13 = .ok (.ifCond .eq 52, 3) := dk_153 0 52 (dk_at dksX5_goNumber_0 13 rfl rfl)
theorem dX5_goNumber_16 : decode cX5_goNumber 16 = .ok (.aload_n 0, 1) := dk_42 (dk_at dksX5_goNumber_0 16 rfl rfl)
theorem dX5_goNumber_17 : decode cX5_goNumber 17 = .ok (.getfield 38, 3) := dk_180 0 38 (dk_at dksX5_goNumber_0 17 rfl rfl)
theorem dX5_goNumber_20 : decode cX5_goNumber 20 = .ok (.aload_n 0, 1) := dk_42 (dk_at dksX5_goNumber_0 20 rfl rfl)
theorem dX5_goNumber_21 : decode cX5_goNumber 21 = .ok (.getfield 41, 3) := dk_180 0 41 (dk_at dksX5_goNumber_0 21 rfl rfl)
theorem dX5_goNumber_24 : decode cX5_goNumber 24 = .ok (.isub, 1) := dk_100 (dk_at dksX5_goNumber_1 0 rfl rfl)
theorem dX5_goNumber_25 : decode cX5_goNumber 25 = .ok (.iconst 3, 1) := dk_6 (dk_at dksX5_goNumber_1 1 rfl rfl)
theorem dX5_goNumber_26 : decode cX5_goNumber 26 = .ok (.if_icmp .ge 26, 3) := dk_162 0 26 (dk_at dksX5_goNumber_1 2 rfl rfl)
theorem dX5_goNumber_29 : decode cX5_goNumber 29 = .ok (.aload_n 0, 1) := dk_42 (dk_at dksX5_goNumber_1 5 rfl rfl)
theorem dX5_goNumber_30 : decode cX5_goNumber 30 = .ok (.bipush 10, 2) := dk_16 10 (dk_at dksX5_goNumber_1 6 rfl rfl)
theorem dX5_goNumber_32 : decode cX5_goNumber 32 = .ok (.aload_n 0, 1) := dk_42 (dk_at dksX5_goNumber_1 8 rfl rfl)
theorem dX5_goNumber_33 : decode cX5_goNumber 33 = .ok (.getfield 64, 3) := dk_180 0 64 (dk_at dksX5_goNumber_1 9 rfl rfl)
theorem dX5_goNumber_36 : decode cX5_goNumber 36 = .ok (.imul, 1) := dk_104 (dk_at dksX5_goNumber_1 12 rfl rfl)
theorem dX5_goNumber_37 : decode cX5_goNumber 37 = .ok (.aload_n 0, 1) := dk_42 (dk_at dksX5_goNumber_1 13 rfl rfl)
theorem dX5_goNumber_38 : decode cX5_goNumber 38 = .ok (.aload_n 0, 1) := dk_42 (dk_at dksX5_goNumber_1 14 rfl rfl)
theorem dX5_goNumber_39 : decode cX5_goNumber 39 = .ok (.getfield 38, 3) := dk_180 0 38 (dk_at dksX5_goNumber_1 15 rfl rfl)
theorem dX5_goNumber_42 : decode cX5_goNumber 42 = .ok (.invokevirtual 30, 3) := dk_182 0 30 (dk_at dksX5_goNumber_1 18 rfl rfl)
theorem dX5_goNumber_45 : decode cX5_goNumber 45 = .ok (.iadd, 1) := dk_96 (dk_at dksX5_goNumber_1 21 rfl rfl)
theorem dX5_goNumber_46 : decode cX5_goNumber 46 = .ok (.bipush 48, 2) := dk_16 48 (dk_at dksX5_goNumber_1 22 rfl rfl)
theorem dX5_goNumber_48 : decode cX5_goNumber 48 = .ok (.isub, 1) := dk_100 (dk_at dksX5_goNumber_2 0 rfl rfl)
theorem dX5_goNumber_49 : decode cX5_goNumber 49 = .ok (.putfield 64, 3) := dk_181 0 64 (dk_at dksX5_goNumber_2 1 rfl rfl)
theorem dX5_goNumber_52 : decode cX5_goNumber 52 = .ok (.aload_n 0, 1) := dk_42 (dk_at dksX5_goNumber_2 4 rfl rfl)
theorem dX5_goNumber_53 : decode cX5_goNumber 53 = .ok (.dup, 1) := dk_89 (dk_at dksX5_goNumber_2 5 rfl rfl)
theorem dX5_goNumber_54 : decode cX5_goNumber 54 = .ok (.getfield 38, 3) := dk_180 0 38 (dk_at dksX5_goNumber_2 6 rfl rfl)
theorem dX5_goNumber_57 : decode cX5_goNumber 57 = .ok (.iconst 1, 1) := dk_4 (dk_at dksX5_goNumber_2 9 rfl rfl)
theorem dX5_goNumber_58 : decode cX5_goNumber 58 = .ok (.iadd, 1) := dk_96 (dk_at dksX5_goNumber_2 10 rfl rfl)
theorem dX5_goNumber_59 : decode cX5_goNumber 59 = .ok (.putfield 38, 3) := dk_181 0 38 (dk_at dksX5_goNumber_2 11 rfl rfl)
theorem dX5_goNumber_62 : decode cX5_goNumber 62 = .ok (.goto (-57), 3) := dk_167 255 199 (dk_at dksX5_goNumber_2 14 rfl rfl)
theorem dX5_goNumber_65 : decode cX5_goNumber 65 = .ok (.aload_n 0, 1) := dk_42 (dk_at dksX5_goNumber_2 17 rfl rfl)
theorem dX5_goNumber_66 : decode cX5_goNumber 66 = .ok (.aload_n 0, 1) := dk_42 (dk_at dksX5_goNumber_2 18 rfl rfl)
theorem dX5_goNumber_67 : decode cX5_goNumber 67 = .ok (.getfield 38, 3) := dk_180 0 38 (dk_at dksX5_goNumber_2 19 rfl rfl)
theorem dX5_goNumber_70 : decode cX5_goNumber 70 = .ok (.aload_n 0, 1) := dk_42 (dk_at dksX5_goNumber_2 22 rfl rfl)
theorem dX5_goNumber_71 : decode cX5_goNumber 71 = .ok (.getfield 41, 3) := dk_180 0 41 (dk_at dksX5_goNumber_3 0 rfl rfl)
theorem dX5_goNumber_74 : decode cX5_goNumber 74 = .ok (.isub, 1) := dk_100 (dk_at dksX5_goNumber_3 3 rfl rfl)
theorem dX5_goNumber_75 : decode cX5_goNumber 75 = .ok (.iconst 3, 1) := dk_6 (dk_at dksX5_goNumber_3 4 rfl rfl)
theorem dX5_goNumber_76 : decode cX5_goNumber 76 = .ok (.if_icmp .le 7, 3) := dk_164 0 7 (dk_at dksX5_goNumber_3 5 rfl rfl)
theorem dX5_goNumber_79 : decode cX5_goNumber 79 = .ok (.iconst 0, 1) := dk_3 (dk_at dksX5_goNumber_3 8 rfl rfl)
theorem dX5_goNumber_80 : decode cX5_goNumber 80 = .ok (.goto 4, 3) := dk_167 0 4 (dk_at dksX5_goNumber_3 9 rfl rfl)
theorem dX5_goNumber_83 : decode cX5_goNumber 83 = .ok (.iconst 3, 1) := dk_6 (dk_at dksX5_goNumber_3 12 rfl rfl)
theorem dX5_goNumber_84 : decode cX5_goNumber 84 = .ok (.putfield 44, 3) := dk_181 0 44 (dk_at dksX5_goNumber_3 13 rfl rfl)
theorem dX5_goNumber_87 : decode cX5_goNumber 87 = .ok (.return_, 1) := dk_177 (dk_at dksX5_goNumber_3 16 rfl rfl)
abbrev cX5_line : ByteArray := prog_12_method_16_code
def yX5_line : MethodName := ⟨RX5, "line", "()V"⟩
def dkwX5_line_2 : List UInt8 := [167, 0, 9, 42, 3, 4, 182, 0, 86, 177]
abbrev dktX5_line_2 : List UInt8 := dkwX5_line_2 ++ []
def dkwX5_line_1 : List UInt8 := [153, 0, 10, 42, 182, 0, 117, 167, 0, 25, 42, 18, 107, 182, 0, 82, 153, 0, 10, 42, 182, 0, 119]
abbrev dktX5_line_1 : List UInt8 := dkwX5_line_1 ++ dktX5_line_2
def dkwX5_line_0 : List UInt8 := [42, 18, 104, 182, 0, 82, 153, 0, 10, 42, 182, 0, 115, 167, 0, 41, 42, 18, 105, 182, 0, 82]
abbrev dktX5_line_0 : List UInt8 := dkwX5_line_0 ++ dktX5_line_1
theorem dksX5_line_0 : cX5_line.data.toList.drop 0 = dktX5_line_0 := by decide +kernel
theorem dksX5_line_1 : cX5_line.data.toList.drop 22 = dktX5_line_1 := dk_seg dksX5_line_0 22 rfl rfl
theorem dksX5_line_2 : cX5_line.data.toList.drop 45 = dktX5_line_2 := dk_seg dksX5_line_1 23 rfl rfl
theorem dX5_line_0 : decode cX5_line 0 = .ok (.aload_n 0, 1) := dk_42 (dk_at dksX5_line_0 0 rfl rfl)
theorem dX5_line_1 : decode cX5_line 1 = .ok (.ldc 104, 2) := dk_18 104 (dk_at dksX5_line_0 1 rfl rfl)
theorem dX5_line_3 : decode cX5_line 3 = .ok (.invokevirtual 82, 3) := dk_182 0 82 (dk_at dksX5_line_0 3 rfl rfl)
theorem dX5_line_6 : decode cX5_line 6 = .ok (.ifCond .eq 10, 3) := dk_153 0 10 (dk_at dksX5_line_0 6 rfl rfl)
theorem dX5_line_9 : decode cX5_line 9 = .ok (.aload_n 0, 1) := dk_42 (dk_at dksX5_line_0 9 rfl rfl)
theorem dX5_line_10 : decode cX5_line 10 = .ok (.invokevirtual 115, 3) := dk_182 0 115 (dk_at dksX5_line_0 10 rfl rfl)
theorem dX5_line_13 : decode cX5_line 13 = .ok (.goto 41, 3) := dk_167 0 41 (dk_at dksX5_line_0 13 rfl rfl)
theorem dX5_line_16 : decode cX5_line 16 = .ok (.aload_n 0, 1) := dk_42 (dk_at dksX5_line_0 16 rfl rfl)
theorem dX5_line_17 : decode cX5_line 17 = .ok (.ldc 105, 2) := dk_18 105 (dk_at dksX5_line_0 17 rfl rfl)
theorem dX5_line_19 : decode cX5_line 19 = .ok (.invokevirtual 82, 3) := dk_182 0 82 (dk_at dksX5_line_0 19 rfl rfl)
theorem dX5_line_22 : decode cX5_line 22 = .ok (.ifCond .eq 10, 3) := dk_153 0 10 (dk_at dksX5_line_1 0 rfl rfl)
theorem dX5_line_25 : decode cX5_line 25 = .ok (.aload_n 0, 1) := dk_42 (dk_at dksX5_line_1 3 rfl rfl)
theorem dX5_line_26 : decode cX5_line 26 = .ok (.invokevirtual 117, 3) := dk_182 0 117 (dk_at dksX5_line_1 4 rfl rfl)
theorem dX5_line_29 : decode cX5_line 29 = .ok (.goto 25, 3) := dk_167 0 25 (dk_at dksX5_line_1 7 rfl rfl)
theorem dX5_line_32 : decode cX5_line 32 = .ok (.aload_n 0, 1) := dk_42 (dk_at dksX5_line_1 10 rfl rfl)
theorem dX5_line_33 : decode cX5_line 33 = .ok (.ldc 107, 2) := dk_18 107 (dk_at dksX5_line_1 11 rfl rfl)
theorem dX5_line_35 : decode cX5_line 35 = .ok (.invokevirtual 82, 3) := dk_182 0 82 (dk_at dksX5_line_1 13 rfl rfl)
theorem dX5_line_38 : decode cX5_line 38 = .ok (.ifCond .eq 10, 3) := dk_153 0 10 (dk_at dksX5_line_1 16 rfl rfl)
theorem dX5_line_41 : decode cX5_line 41 = .ok (.aload_n 0, 1) := dk_42 (dk_at dksX5_line_1 19 rfl rfl)
theorem dX5_line_42 : decode cX5_line 42 = .ok (.invokevirtual 119, 3) := dk_182 0 119 (dk_at dksX5_line_1 20 rfl rfl)
theorem dX5_line_45 : decode cX5_line 45 = .ok (.goto 9, 3) := dk_167 0 9 (dk_at dksX5_line_2 0 rfl rfl)
theorem dX5_line_48 : decode cX5_line 48 = .ok (.aload_n 0, 1) := dk_42 (dk_at dksX5_line_2 3 rfl rfl)
theorem dX5_line_49 : decode cX5_line 49 = .ok (.iconst 0, 1) := dk_3 (dk_at dksX5_line_2 4 rfl rfl)
theorem dX5_line_50 : decode cX5_line 50 = .ok (.iconst 1, 1) := dk_4 (dk_at dksX5_line_2 5 rfl rfl)
theorem dX5_line_51 : decode cX5_line 51 = .ok (.invokevirtual 86, 3) := dk_182 0 86 (dk_at dksX5_line_2 6 rfl rfl)
theorem dX5_line_54 : decode cX5_line 54 = .ok (.return_, 1) := dk_177 (dk_at dksX5_line_2 9 rfl rfl)
abbrev cX5_is : ByteArray := prog_12_method_9_code
def yX5_is : MethodName := ⟨RX5, "is", "(Ljava/lang/String;)Z"⟩
def dkwX5_is_2 : List UInt8 := [148, 154, 0, 7, 4, 167, 0, 4, 3, 172]
abbrev dktX5_is_2 : List UInt8 := dkwX5_is_2 ++ []
def dkwX5_is_1 : List UInt8 := [32, 16, 8, 121, 43, 21, 4, 182, 0, 78, 133, 129, 65, 132, 4, 1, 167, 255, 231, 42, 180, 0, 60, 32]
abbrev dktX5_is_1 : List UInt8 := dkwX5_is_1 ++ dktX5_is_2
def dkwX5_is_0 : List UInt8 := [42, 180, 0, 44, 5, 159, 0, 5, 3, 172, 9, 65, 3, 54, 4, 21, 4, 43, 182, 0, 72, 162, 0, 22]
abbrev dktX5_is_0 : List UInt8 := dkwX5_is_0 ++ dktX5_is_1
theorem dksX5_is_0 : cX5_is.data.toList.drop 0 = dktX5_is_0 := by decide +kernel
theorem dksX5_is_1 : cX5_is.data.toList.drop 24 = dktX5_is_1 := dk_seg dksX5_is_0 24 rfl rfl
theorem dksX5_is_2 : cX5_is.data.toList.drop 48 = dktX5_is_2 := dk_seg dksX5_is_1 24 rfl rfl
theorem dX5_is_0 : decode cX5_is 0 = .ok (.aload_n 0, 1) := dk_42 (dk_at dksX5_is_0 0 rfl rfl)
theorem dX5_is_1 : decode cX5_is 1 = .ok (.getfield 44, 3) := dk_180 0 44 (dk_at dksX5_is_0 1 rfl rfl)
theorem dX5_is_4 : decode cX5_is 4 = .ok (.iconst 2, 1) := dk_5 (dk_at dksX5_is_0 4 rfl rfl)
theorem dX5_is_5 : decode cX5_is 5 = .ok (.if_icmp .eq 5, 3) := dk_159 0 5 (dk_at dksX5_is_0 5 rfl rfl)
theorem dX5_is_8 : decode cX5_is 8 = .ok (.iconst 0, 1) := dk_3 (dk_at dksX5_is_0 8 rfl rfl)
theorem dX5_is_9 : decode cX5_is 9 = .ok (.ireturn, 1) := dk_172 (dk_at dksX5_is_0 9 rfl rfl)
theorem dX5_is_10 : decode cX5_is 10 = .ok (.lconst 0, 1) := dk_9 (dk_at dksX5_is_0 10 rfl rfl)
theorem dX5_is_11 : decode cX5_is 11 = .ok (.lstore_n 2, 1) := dk_65 (dk_at dksX5_is_0 11 rfl rfl)
theorem dX5_is_12 : decode cX5_is 12 = .ok (.iconst 0, 1) := dk_3 (dk_at dksX5_is_0 12 rfl rfl)
theorem dX5_is_13 : decode cX5_is 13 = .ok (.istore 4, 2) := dk_54 4 (dk_at dksX5_is_0 13 rfl rfl)
theorem dX5_is_15 : decode cX5_is 15 = .ok (.iload 4, 2) := dk_21 4 (dk_at dksX5_is_0 15 rfl rfl)
theorem dX5_is_17 : decode cX5_is 17 = .ok (.aload_n 1, 1) := dk_43 (dk_at dksX5_is_0 17 rfl rfl)
theorem dX5_is_18 : decode cX5_is 18 = .ok (.invokevirtual 72, 3) := dk_182 0 72 (dk_at dksX5_is_0 18 rfl rfl)
theorem dX5_is_21 : decode cX5_is 21 = .ok (.if_icmp .ge 22, 3) := dk_162 0 22 (dk_at dksX5_is_0 21 rfl rfl)
theorem dX5_is_24 : decode cX5_is 24 = .ok (.lload_n 2, 1) := dk_32 (dk_at dksX5_is_1 0 rfl rfl)
theorem dX5_is_25 : decode cX5_is 25 = .ok (.bipush 8, 2) := dk_16 8 (dk_at dksX5_is_1 1 rfl rfl)
theorem dX5_is_27 : decode cX5_is 27 = .ok (.lshl, 1) := dk_121 (dk_at dksX5_is_1 3 rfl rfl)
theorem dX5_is_28 : decode cX5_is 28 = .ok (.aload_n 1, 1) := dk_43 (dk_at dksX5_is_1 4 rfl rfl)
theorem dX5_is_29 : decode cX5_is 29 = .ok (.iload 4, 2) := dk_21 4 (dk_at dksX5_is_1 5 rfl rfl)
theorem dX5_is_31 : decode cX5_is 31 = .ok (.invokevirtual 78, 3) := dk_182 0 78 (dk_at dksX5_is_1 7 rfl rfl)
theorem dX5_is_34 : decode cX5_is 34 = .ok (.i2l, 1) := dk_133 (dk_at dksX5_is_1 10 rfl rfl)
theorem dX5_is_35 : decode cX5_is 35 = .ok (.lor, 1) := dk_129 (dk_at dksX5_is_1 11 rfl rfl)
theorem dX5_is_36 : decode cX5_is 36 = .ok (.lstore_n 2, 1) := dk_65 (dk_at dksX5_is_1 12 rfl rfl)
theorem dX5_is_37 : decode cX5_is 37 = .ok (.iinc 4 1, 3) := dk_132 4 1 (dk_at dksX5_is_1 13 rfl rfl)
theorem dX5_is_40 : decode cX5_is 40 = .ok (.goto (-25), 3) := dk_167 255 231 (dk_at dksX5_is_1 16 rfl rfl)
theorem dX5_is_43 : decode cX5_is 43 = .ok (.aload_n 0, 1) := dk_42 (dk_at dksX5_is_1 19 rfl rfl)
theorem dX5_is_44 : decode cX5_is 44 = .ok (.getfield 60, 3) := dk_180 0 60 (dk_at dksX5_is_1 20 rfl rfl)
theorem dX5_is_47 : decode cX5_is 47 = .ok (.lload_n 2, 1) := dk_32 (dk_at dksX5_is_1 23 rfl rfl)
theorem dX5_is_48 : decode cX5_is 48 = .ok (.lcmp, 1) := dk_148 (dk_at dksX5_is_2 0 rfl rfl)
theorem dX5_is_49 : decode cX5_is 49 = .ok (.ifCond .ne 7, 3) := dk_154 0 7 (dk_at dksX5_is_2 1 rfl rfl)
theorem dX5_is_52 : decode cX5_is 52 = .ok (.iconst 1, 1) := dk_4 (dk_at dksX5_is_2 4 rfl rfl)
theorem dX5_is_53 : decode cX5_is 53 = .ok (.goto 4, 3) := dk_167 0 4 (dk_at dksX5_is_2 5 rfl rfl)
theorem dX5_is_56 : decode cX5_is 56 = .ok (.iconst 0, 1) := dk_3 (dk_at dksX5_is_2 8 rfl rfl)
theorem dX5_is_57 : decode cX5_is 57 = .ok (.ireturn, 1) := dk_172 (dk_at dksX5_is_2 9 rfl rfl)
abbrev cX5_bus : ByteArray := prog_12_method_17_code
def yX5_bus : MethodName := ⟨RX5, "bus", "()V"⟩
def dkwX5_bus_3 : List UInt8 := [27, 181, 0, 121, 177]
abbrev dktX5_bus_3 : List UInt8 := dkwX5_bus_3 ++ []
def dkwX5_bus_2 : List UInt8 := [181, 0, 131, 42, 180, 0, 18, 42, 18, 133, 4, 17, 0, 200, 182, 0, 125, 181, 0, 135, 42, 180, 0, 18]
abbrev dktX5_bus_2 : List UInt8 := dkwX5_bus_2 ++ dktX5_bus_3
def dkwX5_bus_1 : List UInt8 := [42, 18, 124, 4, 6, 182, 0, 125, 60, 42, 180, 0, 18, 42, 18, 129, 3, 16, 20, 182, 0, 125]
abbrev dktX5_bus_1 : List UInt8 := dkwX5_bus_1 ++ dktX5_bus_2
def dkwX5_bus_0 : List UInt8 := [42, 42, 180, 0, 18, 180, 0, 121, 154, 0, 7, 4, 167, 0, 4, 3, 6, 182, 0, 86, 42, 182, 0, 90]
abbrev dktX5_bus_0 : List UInt8 := dkwX5_bus_0 ++ dktX5_bus_1
theorem dksX5_bus_0 : cX5_bus.data.toList.drop 0 = dktX5_bus_0 := by decide +kernel
theorem dksX5_bus_1 : cX5_bus.data.toList.drop 24 = dktX5_bus_1 := dk_seg dksX5_bus_0 24 rfl rfl
theorem dksX5_bus_2 : cX5_bus.data.toList.drop 46 = dktX5_bus_2 := dk_seg dksX5_bus_1 22 rfl rfl
theorem dksX5_bus_3 : cX5_bus.data.toList.drop 70 = dktX5_bus_3 := dk_seg dksX5_bus_2 24 rfl rfl
theorem dX5_bus_0 : decode cX5_bus 0 = .ok (.aload_n 0, 1) := dk_42 (dk_at dksX5_bus_0 0 rfl rfl)
theorem dX5_bus_1 : decode cX5_bus 1 = .ok (.aload_n 0, 1) := dk_42 (dk_at dksX5_bus_0 1 rfl rfl)
theorem dX5_bus_2 : decode cX5_bus 2 = .ok (.getfield 18, 3) := dk_180 0 18 (dk_at dksX5_bus_0 2 rfl rfl)
theorem dX5_bus_5 : decode cX5_bus 5 = .ok (.getfield 121, 3) := dk_180 0 121 (dk_at dksX5_bus_0 5 rfl rfl)
theorem dX5_bus_8 : decode cX5_bus 8 = .ok (.ifCond .ne 7, 3) := dk_154 0 7 (dk_at dksX5_bus_0 8 rfl rfl)
theorem dX5_bus_11 : decode cX5_bus 11 = .ok (.iconst 1, 1) := dk_4 (dk_at dksX5_bus_0 11 rfl rfl)
theorem dX5_bus_12 : decode cX5_bus 12 = .ok (.goto 4, 3) := dk_167 0 4 (dk_at dksX5_bus_0 12 rfl rfl)
theorem dX5_bus_15 : decode cX5_bus 15 = .ok (.iconst 0, 1) := dk_3 (dk_at dksX5_bus_0 15 rfl rfl)
theorem dX5_bus_16 : decode cX5_bus 16 = .ok (.iconst 3, 1) := dk_6 (dk_at dksX5_bus_0 16 rfl rfl)
theorem dX5_bus_17 : decode cX5_bus 17 = .ok (.invokevirtual 86, 3) := dk_182 0 86 (dk_at dksX5_bus_0 17 rfl rfl)
theorem dX5_bus_20 : decode cX5_bus 20 = .ok (.aload_n 0, 1) := dk_42 (dk_at dksX5_bus_0 20 rfl rfl)
theorem dX5_bus_21 : decode cX5_bus 21 = .ok (.invokevirtual 90, 3) := dk_182 0 90 (dk_at dksX5_bus_0 21 rfl rfl)
theorem dX5_bus_24 : decode cX5_bus 24 = .ok (.aload_n 0, 1) := dk_42 (dk_at dksX5_bus_1 0 rfl rfl)
theorem dX5_bus_25 : decode cX5_bus 25 = .ok (.ldc 124, 2) := dk_18 124 (dk_at dksX5_bus_1 1 rfl rfl)
theorem dX5_bus_27 : decode cX5_bus 27 = .ok (.iconst 1, 1) := dk_4 (dk_at dksX5_bus_1 3 rfl rfl)
theorem dX5_bus_28 : decode cX5_bus 28 = .ok (.iconst 3, 1) := dk_6 (dk_at dksX5_bus_1 4 rfl rfl)
theorem dX5_bus_29 : decode cX5_bus 29 = .ok (.invokevirtual 125, 3) := dk_182 0 125 (dk_at dksX5_bus_1 5 rfl rfl)
theorem dX5_bus_32 : decode cX5_bus 32 = .ok (.istore_n 1, 1) := dk_60 (dk_at dksX5_bus_1 8 rfl rfl)
theorem dX5_bus_33 : decode cX5_bus 33 = .ok (.aload_n 0, 1) := dk_42 (dk_at dksX5_bus_1 9 rfl rfl)
theorem dX5_bus_34 : decode cX5_bus 34 = .ok (.getfield 18, 3) := dk_180 0 18 (dk_at dksX5_bus_1 10 rfl rfl)
theorem dX5_bus_37 : decode cX5_bus 37 = .ok (.aload_n 0, 1) := dk_42 (dk_at dksX5_bus_1 13 rfl rfl)
theorem dX5_bus_38 : decode cX5_bus 38 = .ok (.ldc 129, 2) := dk_18 129 (dk_at dksX5_bus_1 14 rfl rfl)
theorem dX5_bus_40 : decode cX5_bus 40 = .ok (.iconst 0, 1) := dk_3 (dk_at dksX5_bus_1 16 rfl rfl)
theorem dX5_bus_41 : decode cX5_bus 41 = .ok (.bipush 20, 2) := dk_16 20 (dk_at dksX5_bus_1 17 rfl rfl)
theorem dX5_bus_43 : decode cX5_bus 43 = .ok (.invokevirtual 125, 3) := dk_182 0 125 (dk_at dksX5_bus_1 19 rfl rfl)
theorem dX5_bus_46 : decode cX5_bus 46 = .ok (.putfield 131, 3) := dk_181 0 131 (dk_at dksX5_bus_2 0 rfl rfl)
theorem dX5_bus_49 : decode cX5_bus 49 = .ok (.aload_n 0, 1) := dk_42 (dk_at dksX5_bus_2 3 rfl rfl)
theorem dX5_bus_50 : decode cX5_bus 50 = .ok (.getfield 18, 3) := dk_180 0 18 (dk_at dksX5_bus_2 4 rfl rfl)
theorem dX5_bus_53 : decode cX5_bus 53 = .ok (.aload_n 0, 1) := dk_42 (dk_at dksX5_bus_2 7 rfl rfl)
theorem dX5_bus_54 : decode cX5_bus 54 = .ok (.ldc 133, 2) := dk_18 133 (dk_at dksX5_bus_2 8 rfl rfl)
theorem dX5_bus_56 : decode cX5_bus 56 = .ok (.iconst 1, 1) := dk_4 (dk_at dksX5_bus_2 10 rfl rfl)
theorem dX5_bus_57 : decode cX5_bus 57 = .ok (.sipush 200, 3) := dk_17 0 200 (dk_at dksX5_bus_2 11 rfl rfl)
theorem dX5_bus_60 : decode cX5_bus 60 = .ok (.invokevirtual 125, 3) := dk_182 0 125 (dk_at dksX5_bus_2 14 rfl rfl)
theorem dX5_bus_63 : decode cX5_bus 63 = .ok (.putfield 135, 3) := dk_181 0 135 (dk_at dksX5_bus_2 17 rfl rfl)
theorem dX5_bus_66 : decode cX5_bus 66 = .ok (.aload_n 0, 1) := dk_42 (dk_at dksX5_bus_2 20 rfl rfl)
theorem dX5_bus_67 : decode cX5_bus 67 = .ok (.getfield 18, 3) := dk_180 0 18 (dk_at dksX5_bus_2 21 rfl rfl)
theorem dX5_bus_70 : decode cX5_bus 70 = .ok (.iload_n 1, 1) := dk_27 (dk_at dksX5_bus_3 0 rfl rfl)
theorem dX5_bus_71 : decode cX5_bus 71 = .ok (.putfield 121, 3) := dk_181 0 121 (dk_at dksX5_bus_3 1 rfl rfl)
theorem dX5_bus_74 : decode cX5_bus 74 = .ok (.return_, 1) := dk_177 (dk_at dksX5_bus_3 4 rfl rfl)
abbrev cX5_need : ByteArray := prog_12_method_8_code
def yX5_need : MethodName := ⟨RX5, "need", "(ZI)V"⟩
def dkwX5_need_0 : List UInt8 := [27, 154, 0, 16, 187, 0, 67, 89, 28, 42, 180, 0, 41, 183, 0, 69, 191, 177]
abbrev dktX5_need_0 : List UInt8 := dkwX5_need_0 ++ []
theorem dksX5_need_0 : cX5_need.data.toList.drop 0 = dktX5_need_0 := by decide +kernel
theorem dX5_need_0 : decode cX5_need 0 = .ok (.iload_n 1, 1) := dk_27 (dk_at dksX5_need_0 0 rfl rfl)
theorem dX5_need_1 : decode cX5_need 1 = .ok (.ifCond .ne 16, 3) := dk_154 0 16 (dk_at dksX5_need_0 1 rfl rfl)
theorem dX5_need_4 : decode cX5_need 4 = .ok (.new 67, 3) := dk_187 0 67 (dk_at dksX5_need_0 4 rfl rfl)
theorem dX5_need_7 : decode cX5_need 7 = .ok (.dup, 1) := dk_89 (dk_at dksX5_need_0 7 rfl rfl)
theorem dX5_need_8 : decode cX5_need 8 = .ok (.iload_n 2, 1) := dk_28 (dk_at dksX5_need_0 8 rfl rfl)
theorem dX5_need_9 : decode cX5_need 9 = .ok (.aload_n 0, 1) := dk_42 (dk_at dksX5_need_0 9 rfl rfl)
theorem dX5_need_10 : decode cX5_need 10 = .ok (.getfield 41, 3) := dk_180 0 41 (dk_at dksX5_need_0 10 rfl rfl)
theorem dX5_need_13 : decode cX5_need 13 = .ok (.invokespecial 69, 3) := dk_183 0 69 (dk_at dksX5_need_0 13 rfl rfl)
theorem dX5_need_16 : decode cX5_need 16 = .ok (.athrow, 1) := dk_191 (dk_at dksX5_need_0 16 rfl rfl)
theorem dX5_need_17 : decode cX5_need 17 = .ok (.return_, 1) := dk_177 (dk_at dksX5_need_0 17 rfl rfl)
abbrev cX5_part : ByteArray := prog_12_method_13_code
def yX5_part : MethodName := ⟨RX5, "part", "(Ljava/lang/String;II)I"⟩
def dkwX5_part_0 : List UInt8 := [42, 43, 182, 0, 97, 42, 28, 29, 182, 0, 101, 172]
abbrev dktX5_part_0 : List UInt8 := dkwX5_part_0 ++ []
theorem dksX5_part_0 : cX5_part.data.toList.drop 0 = dktX5_part_0 := by decide +kernel
theorem dX5_part_0 : decode cX5_part 0 = .ok (.aload_n 0, 1) := dk_42 (dk_at dksX5_part_0 0 rfl rfl)
theorem dX5_part_1 : decode cX5_part 1 = .ok (.aload_n 1, 1) := dk_43 (dk_at dksX5_part_0 1 rfl rfl)
theorem dX5_part_2 : decode cX5_part 2 = .ok (.invokevirtual 97, 3) := dk_182 0 97 (dk_at dksX5_part_0 2 rfl rfl)
theorem dX5_part_5 : decode cX5_part 5 = .ok (.aload_n 0, 1) := dk_42 (dk_at dksX5_part_0 5 rfl rfl)
theorem dX5_part_6 : decode cX5_part 6 = .ok (.iload_n 2, 1) := dk_28 (dk_at dksX5_part_0 6 rfl rfl)
theorem dX5_part_7 : decode cX5_part 7 = .ok (.iload_n 3, 1) := dk_29 (dk_at dksX5_part_0 7 rfl rfl)
theorem dX5_part_8 : decode cX5_part 8 = .ok (.invokevirtual 101, 3) := dk_182 0 101 (dk_at dksX5_part_0 8 rfl rfl)
theorem dX5_part_11 : decode cX5_part 11 = .ok (.ireturn, 1) := dk_172 (dk_at dksX5_part_0 11 rfl rfl)
abbrev cX5_expect : ByteArray := prog_12_method_10_code
def yX5_expect : MethodName := ⟨RX5, "expect", "(Ljava/lang/String;)V"⟩
def dkwX5_expect_0 : List UInt8 := [42, 42, 43, 182, 0, 82, 4, 182, 0, 86, 42, 182, 0, 90, 177]
abbrev dktX5_expect_0 : List UInt8 := dkwX5_expect_0 ++ []
theorem dksX5_expect_0 : cX5_expect.data.toList.drop 0 = dktX5_expect_0 := by decide +kernel
theorem dX5_expect_0 : decode cX5_expect 0 = .ok (.aload_n 0, 1) := dk_42 (dk_at dksX5_expect_0 0 rfl rfl)
theorem dX5_expect_1 : decode cX5_expect 1 = .ok (.aload_n 0, 1) := dk_42 (dk_at dksX5_expect_0 1 rfl rfl)
theorem dX5_expect_2 : decode cX5_expect 2 = .ok (.aload_n 1, 1) := dk_43 (dk_at dksX5_expect_0 2 rfl rfl)
theorem dX5_expect_3 : decode cX5_expect 3 = .ok (.invokevirtual 82, 3) := dk_182 0 82 (dk_at dksX5_expect_0 3 rfl rfl)
theorem dX5_expect_6 : decode cX5_expect 6 = .ok (.iconst 1, 1) := dk_4 (dk_at dksX5_expect_0 6 rfl rfl)
theorem dX5_expect_7 : decode cX5_expect 7 = .ok (.invokevirtual 86, 3) := dk_182 0 86 (dk_at dksX5_expect_0 7 rfl rfl)
theorem dX5_expect_10 : decode cX5_expect 10 = .ok (.aload_n 0, 1) := dk_42 (dk_at dksX5_expect_0 10 rfl rfl)
theorem dX5_expect_11 : decode cX5_expect 11 = .ok (.invokevirtual 90, 3) := dk_182 0 90 (dk_at dksX5_expect_0 11 rfl rfl)
theorem dX5_expect_14 : decode cX5_expect 14 = .ok (.return_, 1) := dk_177 (dk_at dksX5_expect_0 14 rfl rfl)
abbrev cX5_told : ByteArray := prog_12_method_12_code
def yX5_told : MethodName := ⟨RX5, "told", "(II)I"⟩
def dkwX5_told_0 : List UInt8 := [42, 27, 28, 182, 0, 93, 62, 42, 182, 0, 90, 29, 172]
abbrev dktX5_told_0 : List UInt8 := dkwX5_told_0 ++ []
theorem dksX5_told_0 : cX5_told.data.toList.drop 0 = dktX5_told_0 := by decide +kernel
theorem dX5_told_0 : decode cX5_told 0 = .ok (.aload_n 0, 1) := dk_42 (dk_at dksX5_told_0 0 rfl rfl)
theorem dX5_told_1 : decode cX5_told 1 = .ok (.iload_n 1, 1) := dk_27 (dk_at dksX5_told_0 1 rfl rfl)
theorem dX5_told_2 : decode cX5_told 2 = .ok (.iload_n 2, 1) := dk_28 (dk_at dksX5_told_0 2 rfl rfl)
theorem dX5_told_3 : decode cX5_told 3 = .ok (.invokevirtual 93, 3) := dk_182 0 93 (dk_at dksX5_told_0 3 rfl rfl)
theorem dX5_told_6 : decode cX5_told 6 = .ok (.istore_n 3, 1) := dk_62 (dk_at dksX5_told_0 6 rfl rfl)
theorem dX5_told_7 : decode cX5_told 7 = .ok (.aload_n 0, 1) := dk_42 (dk_at dksX5_told_0 7 rfl rfl)
theorem dX5_told_8 : decode cX5_told 8 = .ok (.invokevirtual 90, 3) := dk_182 0 90 (dk_at dksX5_told_0 8 rfl rfl)
theorem dX5_told_11 : decode cX5_told 11 = .ok (.iload_n 3, 1) := dk_29 (dk_at dksX5_told_0 11 rfl rfl)
theorem dX5_told_12 : decode cX5_told 12 = .ok (.ireturn, 1) := dk_172 (dk_at dksX5_told_0 12 rfl rfl)
abbrev cX5_at : ByteArray := prog_12_method_11_code
def yX5_at : MethodName := ⟨RX5, "at", "(II)I"⟩
def dkwX5_at_1 : List UInt8 := [28, 184, 0, 34, 7, 182, 0, 86, 42, 180, 0, 64, 172]
abbrev dktX5_at_1 : List UInt8 := dkwX5_at_1 ++ []
def dkwX5_at_0 : List UInt8 := [42, 42, 180, 0, 44, 6, 160, 0, 7, 4, 167, 0, 4, 3, 4, 182, 0, 86, 42, 42, 180, 0, 64, 27]
abbrev dktX5_at_0 : List UInt8 := dkwX5_at_0 ++ dktX5_at_1
theorem dksX5_at_0 : cX5_at.data.toList.drop 0 = dktX5_at_0 := by decide +kernel
theorem dksX5_at_1 : cX5_at.data.toList.drop 24 = dktX5_at_1 := dk_seg dksX5_at_0 24 rfl rfl
theorem dX5_at_0 : decode cX5_at 0 = .ok (.aload_n 0, 1) := dk_42 (dk_at dksX5_at_0 0 rfl rfl)
theorem dX5_at_1 : decode cX5_at 1 = .ok (.aload_n 0, 1) := dk_42 (dk_at dksX5_at_0 1 rfl rfl)
theorem dX5_at_2 : decode cX5_at 2 = .ok (.getfield 44, 3) := dk_180 0 44 (dk_at dksX5_at_0 2 rfl rfl)
theorem dX5_at_5 : decode cX5_at 5 = .ok (.iconst 3, 1) := dk_6 (dk_at dksX5_at_0 5 rfl rfl)
theorem dX5_at_6 : decode cX5_at 6 = .ok (.if_icmp .ne 7, 3) := dk_160 0 7 (dk_at dksX5_at_0 6 rfl rfl)
theorem dX5_at_9 : decode cX5_at 9 = .ok (.iconst 1, 1) := dk_4 (dk_at dksX5_at_0 9 rfl rfl)
theorem dX5_at_10 : decode cX5_at 10 = .ok (.goto 4, 3) := dk_167 0 4 (dk_at dksX5_at_0 10 rfl rfl)
theorem dX5_at_13 : decode cX5_at 13 = .ok (.iconst 0, 1) := dk_3 (dk_at dksX5_at_0 13 rfl rfl)
theorem dX5_at_14 : decode cX5_at 14 = .ok (.iconst 1, 1) := dk_4 (dk_at dksX5_at_0 14 rfl rfl)
theorem dX5_at_15 : decode cX5_at 15 = .ok (.invokevirtual 86, 3) := dk_182 0 86 (dk_at dksX5_at_0 15 rfl rfl)
theorem dX5_at_18 : decode cX5_at 18 = .ok (.aload_n 0, 1) := dk_42 (dk_at dksX5_at_0 18 rfl rfl)
theorem dX5_at_19 : decode cX5_at 19 = .ok (.aload_n 0, 1) := dk_42 (dk_at dksX5_at_0 19 rfl rfl)
theorem dX5_at_20 : decode cX5_at 20 = .ok (.getfield 64, 3) := dk_180 0 64 (dk_at dksX5_at_0 20 rfl rfl)
theorem dX5_at_23 : decode cX5_at 23 = .ok (.iload_n 1, 1) := dk_27 (dk_at dksX5_at_0 23 rfl rfl)
theorem dX5_at_24 : decode cX5_at 24 = .ok (.iload_n 2, 1) := dk_28 (dk_at dksX5_at_1 0 rfl rfl)
theorem dX5_at_25 : decode cX5_at 25 = .ok (.invokestatic 34, 3) := dk_184 0 34 (dk_at dksX5_at_1 1 rfl rfl)
theorem dX5_at_28 : decode cX5_at 28 = .ok (.iconst 4, 1) := dk_7 (dk_at dksX5_at_1 4 rfl rfl)
theorem dX5_at_29 : decode cX5_at 29 = .ok (.invokevirtual 86, 3) := dk_182 0 86 (dk_at dksX5_at_1 5 rfl rfl)
theorem dX5_at_32 : decode cX5_at 32 = .ok (.aload_n 0, 1) := dk_42 (dk_at dksX5_at_1 8 rfl rfl)
theorem dX5_at_33 : decode cX5_at 33 = .ok (.getfield 64, 3) := dk_180 0 64 (dk_at dksX5_at_1 9 rfl rfl)
theorem dX5_at_36 : decode cX5_at 36 = .ok (.ireturn, 1) := dk_172 (dk_at dksX5_at_1 12 rfl rfl)
abbrev cX5_board : ByteArray := prog_12_method_19_code
def yX5_board : MethodName := ⟨RX5, "board", "()V"⟩
def dkwX5_board_8 : List UInt8 := [180, 0, 154, 21, 4, 184, 0, 158, 25, 5, 182, 0, 186, 87, 177]
abbrev dktX5_board_8 : List UInt8 := dkwX5_board_8 ++ []
def dkwX5_board_7 : List UInt8 := [183, 0, 174, 58, 5, 42, 180, 0, 18, 180, 0, 177, 25, 5, 182, 0, 181, 87, 42, 180, 0, 18]
abbrev dktX5_board_7 : List UInt8 := dkwX5_board_7 ++ dktX5_board_8
def dkwX5_board_6 : List UInt8 := [187, 0, 170, 89, 31, 42, 180, 0, 18, 182, 0, 112, 29, 21, 4, 42, 18, 172, 3, 16, 7, 182, 0, 125]
abbrev dktX5_board_6 : List UInt8 := dkwX5_board_6 ++ dktX5_board_7
def dkwX5_board_5 : List UInt8 := [184, 0, 158, 182, 0, 164, 154, 0, 7, 4, 167, 0, 4, 3, 6, 182, 0, 86, 42, 182, 0, 90]
abbrev dktX5_board_5 : List UInt8 := dkwX5_board_5 ++ dktX5_board_6
def dkwX5_board_4 : List UInt8 := [182, 0, 97, 42, 4, 16, 31, 182, 0, 93, 54, 4, 42, 42, 180, 0, 18, 180, 0, 154, 21, 4]
abbrev dktX5_board_4 : List UInt8 := dkwX5_board_4 ++ dktX5_board_5
def dkwX5_board_3 : List UInt8 := [182, 0, 149, 154, 0, 7, 4, 167, 0, 4, 3, 6, 182, 0, 86, 42, 182, 0, 90, 42, 18, 152]
abbrev dktX5_board_3 : List UInt8 := dkwX5_board_3 ++ dktX5_board_4
def dkwX5_board_2 : List UInt8 := [182, 0, 90, 42, 18, 147, 182, 0, 97, 42, 3, 16, 9, 182, 0, 93, 62, 42, 42, 180, 0, 18, 29]
abbrev dktX5_board_2 : List UInt8 := dkwX5_board_2 ++ dktX5_board_3
def dkwX5_board_1 : List UInt8 := [180, 0, 60, 182, 0, 143, 199, 0, 7, 4, 167, 0, 4, 3, 6, 182, 0, 86, 42, 180, 0, 60, 64, 42]
abbrev dktX5_board_1 : List UInt8 := dkwX5_board_1 ++ dktX5_board_2
def dkwX5_board_0 : List UInt8 := [42, 42, 180, 0, 18, 182, 0, 112, 16, 6, 182, 0, 137, 42, 182, 0, 140, 42, 42, 180, 0, 18, 42]
abbrev dktX5_board_0 : List UInt8 := dkwX5_board_0 ++ dktX5_board_1
theorem dksX5_board_0 : cX5_board.data.toList.drop 0 = dktX5_board_0 := by decide +kernel
theorem dksX5_board_1 : cX5_board.data.toList.drop 23 = dktX5_board_1 := dk_seg dksX5_board_0 23 rfl rfl
theorem dksX5_board_2 : cX5_board.data.toList.drop 47 = dktX5_board_2 := dk_seg dksX5_board_1 24 rfl rfl
theorem dksX5_board_3 : cX5_board.data.toList.drop 70 = dktX5_board_3 := dk_seg dksX5_board_2 23 rfl rfl
theorem dksX5_board_4 : cX5_board.data.toList.drop 92 = dktX5_board_4 := dk_seg dksX5_board_3 22 rfl rfl
theorem dksX5_board_5 : cX5_board.data.toList.drop 114 = dktX5_board_5 := dk_seg dksX5_board_4 22 rfl rfl
theorem dksX5_board_6 : cX5_board.data.toList.drop 136 = dktX5_board_6 := dk_seg dksX5_board_5 22 rfl rfl
theorem dksX5_board_7 : cX5_board.data.toList.drop 160 = dktX5_board_7 := dk_seg dksX5_board_6 24 rfl rfl
theorem dksX5_board_8 : cX5_board.data.toList.drop 182 = dktX5_board_8 := dk_seg dksX5_board_7 22 rfl rfl
theorem dX5_board_0 : decode cX5_board 0 = .ok (.aload_n 0, 1) := dk_42 (dk_at dksX5_board_0 0 rfl rfl)
theorem dX5_board_1 : decode cX5_board 1 = .ok (.aload_n 0, 1) := dk_42 (dk_at dksX5_board_0 1 rfl rfl)
theorem dX5_board_2 : decode cX5_board 2 = .ok (.getfield 18, 3) := dk_180 0 18 (dk_at dksX5_board_0 2 rfl rfl)
theorem dX5_board_5 : decode cX5_board 5 = .ok (.invokevirtual 112, 3) := dk_182 0 112 (dk_at dksX5_board_0 5 rfl rfl)
theorem dX5_board_8 : decode cX5_board 8 = .ok (.bipush 6, 2) := dk_16 6 (dk_at dksX5_board_0 8 rfl rfl)
theorem dX5_board_10 : decode cX5_board 10 = .ok (.invokevirtual 137, 3) := dk_182 0 137 (dk_at dksX5_board_0 10 rfl rfl)
theorem dX5_board_13 : decode cX5_board 13 = .ok (.aload_n 0, 1) := dk_42 (dk_at dksX5_board_0 13 rfl rfl)
theorem dX5_board_14 : decode cX5_board 14 = .ok (.invokevirtual 140, 3) := dk_182 0 140 (dk_at dksX5_board_0 14 rfl rfl)
theorem dX5_board_17 : decode cX5_board 17 = .ok (.aload_n 0, 1) := dk_42 (dk_at dksX5_board_0 17 rfl rfl)
theorem dX5_board_18 : decode cX5_board 18 = .ok (.aload_n 0, 1) := dk_42 (dk_at dksX5_board_0 18 rfl rfl)
theorem dX5_board_19 : decode cX5_board 19 = .ok (.getfield 18, 3) := dk_180 0 18 (dk_at dksX5_board_0 19 rfl rfl)
theorem dX5_board_22 : decode cX5_board 22 = .ok (.aload_n 0, 1) := dk_42 (dk_at dksX5_board_0 22 rfl rfl)
theorem dX5_board_23 : decode cX5_board 23 = .ok (.getfield 60, 3) := dk_180 0 60 (dk_at dksX5_board_1 0 rfl rfl)
theorem dX5_board_26 : decode cX5_board 26 = .ok (.invokevirtual 143, 3) := dk_182 0 143 (dk_at dksX5_board_1 3 rfl rfl)
theorem dX5_board_29 : decode cX5_board 29 = .ok (.ifnonnull 7, 3) := dk_199 0 7 (dk_at dksX5_board_1 6 rfl rfl)
theorem dX5_board_32 : decode cX5_board 32 = .ok (.iconst 1, 1) := dk_4 (dk_at dksX5_board_1 9 rfl rfl)
theorem dX5_board_33 : decode cX5_board 33 = .ok (.goto 4, 3) := dk_167 0 4 (dk_at dksX5_board_1 10 rfl rfl)
theorem dX5_board_36 : decode cX5_board 36 = .ok (.iconst 0, 1) := dk_3 (dk_at dksX5_board_1 13 rfl rfl)
theorem dX5_board_37 : decode cX5_board 37 = .ok (.iconst 3, 1) := dk_6 (dk_at dksX5_board_1 14 rfl rfl)
theorem dX5_board_38 : decode cX5_board 38 = .ok (.invokevirtual 86, 3) := dk_182 0 86 (dk_at dksX5_board_1 15 rfl rfl)
theorem dX5_board_41 : decode cX5_board 41 = .ok (.aload_n 0, 1) := dk_42 (dk_at dksX5_board_1 18 rfl rfl)
theorem dX5_board_42 : decode cX5_board 42 = .ok (.getfield 60, 3) := dk_180 0 60 (dk_at dksX5_board_1 19 rfl rfl)
theorem dX5_board_45 : decode cX5_board 45 = .ok (.lstore_n 1, 1) := dk_64 (dk_at dksX5_board_1 22 rfl rfl)
theorem dX5_board_46 : decode cX5_board 46 = .ok (.aload_n 0, 1) := dk_42 (dk_at dksX5_board_1 23 rfl rfl)
theorem dX5_board_47 : decode cX5_board 47 = .ok (.invokevirtual 90, 3) := dk_182 0 90 (dk_at dksX5_board_2 0 rfl rfl)
theorem dX5_board_50 : decode cX5_board 50 = .ok (.aload_n 0, 1) := dk_42 (dk_at dksX5_board_2 3 rfl rfl)
theorem dX5_board_51 : decode cX5_board 51 = .ok (.ldc 147, 2) := dk_18 147 (dk_at dksX5_board_2 4 rfl rfl)
theorem dX5_board_53 : decode cX5_board 53 = .ok (.invokevirtual 97, 3) := dk_182 0 97 (dk_at dksX5_board_2 6 rfl rfl)
theorem dX5_board_56 : decode cX5_board 56 = .ok (.aload_n 0, 1) := dk_42 (dk_at dksX5_board_2 9 rfl rfl)
theorem dX5_board_57 : decode cX5_board 57 = .ok (.iconst 0, 1) := dk_3 (dk_at dksX5_board_2 10 rfl rfl)
theorem dX5_board_58 : decode cX5_board 58 = .ok (.bipush 9, 2) := dk_16 9 (dk_at dksX5_board_2 11 rfl rfl)
theorem dX5_board_60 : decode cX5_board 60 = .ok (.invokevirtual 93, 3) := dk_182 0 93 (dk_at dksX5_board_2 13 rfl rfl)
theorem dX5_board_63 : decode cX5_board 63 = .ok (.istore_n 3, 1) := dk_62 (dk_at dksX5_board_2 16 rfl rfl)
theorem dX5_board_64 : decode cX5_board 64 = .ok (.aload_n 0, 1) := dk_42 (dk_at dksX5_board_2 17 rfl rfl)
theorem dX5_board_65 : decode cX5_board 65 = .ok (.aload_n 0, 1) := dk_42 (dk_at dksX5_board_2 18 rfl rfl)
theorem dX5_board_66 : decode cX5_board 66 = .ok (.getfield 18, 3) := dk_180 0 18 (dk_at dksX5_board_2 19 rfl rfl)
theorem dX5_board_69 : decode cX5_board 69 = .ok (.iload_n 3, 1) := dk_29 (dk_at dksX5_board_2 22 rfl rfl)
theorem dX5_board_70 : decode cX5_board 70 = .ok (.invokevirtual 149, 3) := dk_182 0 149 (dk_at dksX5_board_3 0 rfl rfl)
theorem dX5_board_73 : decode cX5_board 73 = .ok (.ifCond .ne 7, 3) := dk_154 0 7 (dk_at dksX5_board_3 3 rfl rfl)
theorem dX5_board_76 : decode cX5_board 76 = .ok (.iconst 1, 1) := dk_4 (dk_at dksX5_board_3 6 rfl rfl)
theorem dX5_board_77 : decode cX5_board 77 = .ok (.goto 4, 3) := dk_167 0 4 (dk_at dksX5_board_3 7 rfl rfl)
theorem dX5_board_80 : decode cX5_board 80 = .ok (.iconst 0, 1) := dk_3 (dk_at dksX5_board_3 10 rfl rfl)
theorem dX5_board_81 : decode cX5_board 81 = .ok (.iconst 3, 1) := dk_6 (dk_at dksX5_board_3 11 rfl rfl)
theorem dX5_board_82 : decode cX5_board 82 = .ok (.invokevirtual 86, 3) := dk_182 0 86 (dk_at dksX5_board_3 12 rfl rfl)
theorem dX5_board_85 : decode cX5_board 85 = .ok (.aload_n 0, 1) := dk_42 (dk_at dksX5_board_3 15 rfl rfl)
theorem dX5_board_86 : decode cX5_board 86 = .ok (.invokevirtual 90, 3) := dk_182 0 90 (dk_at dksX5_board_3 16 rfl rfl)
theorem dX5_board_89 : decode cX5_board 89 = .ok (.aload_n 0, 1) := dk_42 (dk_at dksX5_board_3 19 rfl rfl)
theorem dX5_board_90 : decode cX5_board 90 = .ok (.ldc 152, 2) := dk_18 152 (dk_at dksX5_board_3 20 rfl rfl)
theorem dX5_board_92 : decode cX5_board 92 = .ok (.invokevirtual 97, 3) := dk_182 0 97 (dk_at dksX5_board_4 0 rfl rfl)
theorem dX5_board_95 : decode cX5_board 95 = .ok (.aload_n 0, 1) := dk_42 (dk_at dksX5_board_4 3 rfl rfl)
theorem dX5_board_96 : decode cX5_board 96 = .ok (.iconst 1, 1) := dk_4 (dk_at dksX5_board_4 4 rfl rfl)
theorem dX5_board_97 : decode cX5_board 97 = .ok (.bipush 31, 2) := dk_16 31 (dk_at dksX5_board_4 5 rfl rfl)
theorem dX5_board_99 : decode cX5_board 99 = .ok (.invokevirtual 93, 3) := dk_182 0 93 (dk_at dksX5_board_4 7 rfl rfl)
theorem dX5_board_102 : decode cX5_board 102 = .ok (.istore 4, 2) := dk_54 4 (dk_at dksX5_board_4 10 rfl rfl)
theorem dX5_board_104 : decode cX5_board 104 = .ok (.aload_n 0, 1) := dk_42 (dk_at dksX5_board_4 12 rfl rfl)
theorem dX5_board_105 : decode cX5_board 105 = .ok (.aload_n 0, 1) := dk_42 (dk_at dksX5_board_4 13 rfl rfl)
theorem dX5_board_106 : decode cX5_board 106 = .ok (.getfield 18, 3) := dk_180 0 18 (dk_at dksX5_board_4 14 rfl rfl)
theorem dX5_board_109 : decode cX5_board 109 = .ok (.getfield 154, 3) := dk_180 0 154 (dk_at dksX5_board_4 17 rfl rfl)
theorem dX5_board_112 : decode cX5_board 112 = .ok (.iload 4, 2) := dk_21 4 (dk_at dksX5_board_4 20 rfl rfl)
theorem dX5_board_114 : decode cX5_board 114 = .ok (.invokestatic 158, 3) := dk_184 0 158 (dk_at dksX5_board_5 0 rfl rfl)
theorem dX5_board_117 : decode cX5_board 117 = .ok (.invokevirtual 164, 3) := dk_182 0 164 (dk_at dksX5_board_5 3 rfl rfl)
theorem dX5_board_120 : decode cX5_board 120 = .ok (.ifCond .ne 7, 3) := dk_154 0 7 (dk_at dksX5_board_5 6 rfl rfl)
theorem dX5_board_123 : decode cX5_board 123 = .ok (.iconst 1, 1) := dk_4 (dk_at dksX5_board_5 9 rfl rfl)
theorem dX5_board_124 : decode cX5_board 124 = .ok (.goto 4, 3) := dk_167 0 4 (dk_at dksX5_board_5 10 rfl rfl)
theorem dX5_board_127 : decode cX5_board 127 = .ok (.iconst 0, 1) := dk_3 (dk_at dksX5_board_5 13 rfl rfl)
theorem dX5_board_128 : decode cX5_board 128 = .ok (.iconst 3, 1) := dk_6 (dk_at dksX5_board_5 14 rfl rfl)
theorem dX5_board_129 : decode cX5_board 129 = .ok (.invokevirtual 86, 3) := dk_182 0 86 (dk_at dksX5_board_5 15 rfl rfl)
theorem dX5_board_132 : decode cX5_board 132 = .ok (.aload_n 0, 1) := dk_42 (dk_at dksX5_board_5 18 rfl rfl)
theorem dX5_board_133 : decode cX5_board 133 = .ok (.invokevirtual 90, 3) := dk_182 0 90 (dk_at dksX5_board_5 19 rfl rfl)
theorem dX5_board_136 : decode cX5_board 136 = .ok (.new 170, 3) := dk_187 0 170 (dk_at dksX5_board_6 0 rfl rfl)
theorem dX5_board_139 : decode cX5_board 139 = .ok (.dup, 1) := dk_89 (dk_at dksX5_board_6 3 rfl rfl)
theorem dX5_board_140 : decode cX5_board 140 = .ok (.lload_n 1, 1) := dk_31 (dk_at dksX5_board_6 4 rfl rfl)
theorem dX5_board_141 : decode cX5_board 141 = .ok (.aload_n 0, 1) := dk_42 (dk_at dksX5_board_6 5 rfl rfl)
theorem dX5_board_142 : decode cX5_board 142 = .ok (.getfield 18, 3) := dk_180 0 18 (dk_at dksX5_board_6 6 rfl rfl)
theorem dX5_board_145 : decode cX5_board 145 = .ok (.invokevirtual 112, 3) := dk_182 0 112 (dk_at dksX5_board_6 9 rfl rfl)
theorem dX5_board_148 : decode cX5_board 148 = .ok (.iload_n 3, 1) := dk_29 (dk_at dksX5_board_6 12 rfl rfl)
theorem dX5_board_149 : decode cX5_board 149 = .ok (.iload 4, 2) := dk_21 4 (dk_at dksX5_board_6 13 rfl rfl)
theorem dX5_board_151 : decode cX5_board 151 = .ok (.aload_n 0, 1) := dk_42 (dk_at dksX5_board_6 15 rfl rfl)
theorem dX5_board_152 : decode cX5_board 152 = .ok (.ldc 172, 2) := dk_18 172 (dk_at dksX5_board_6 16 rfl rfl)
theorem dX5_board_154 : decode cX5_board 154 = .ok (.iconst 0, 1) := dk_3 (dk_at dksX5_board_6 18 rfl rfl)
theorem dX5_board_155 : decode cX5_board 155 = .ok (.bipush 7, 2) := dk_16 7 (dk_at dksX5_board_6 19 rfl rfl)
theorem dX5_board_157 : decode cX5_board 157 = .ok (.invokevirtual 125, 3) := dk_182 0 125 (dk_at dksX5_board_6 21 rfl rfl)
theorem dX5_board_160 : decode cX5_board 160 = .ok (.invokespecial 174, 3) := dk_183 0 174 (dk_at dksX5_board_7 0 rfl rfl)
theorem dX5_board_163 : decode cX5_board 163 = .ok (.astore 5, 2) := dk_58 5 (dk_at dksX5_board_7 3 rfl rfl)
theorem dX5_board_165 : decode cX5_board 165 = .ok (.aload_n 0, 1) := dk_42 (dk_at dksX5_board_7 5 rfl rfl)
theorem dX5_board_166 : decode cX5_board 166 = .ok (.getfield 18, 3) := dk_180 0 18 (dk_at dksX5_board_7 6 rfl rfl)
theorem dX5_board_169 : decode cX5_board 169 = .ok (.getfield 177, 3) := dk_180 0 177 (dk_at dksX5_board_7 9 rfl rfl)
theorem dX5_board_172 : decode cX5_board 172 = .ok (.aload 5, 2) := dk_25 5 (dk_at dksX5_board_7 12 rfl rfl)
theorem dX5_board_174 : decode cX5_board 174 = .ok (.invokevirtual 181, 3) := dk_182 0 181 (dk_at dksX5_board_7 14 rfl rfl)
theorem dX5_board_177 : decode cX5_board 177 = .ok (.pop, 1) := dk_87 (dk_at dksX5_board_7 17 rfl rfl)
theorem dX5_board_178 : decode cX5_board 178 = .ok (.aload_n 0, 1) := dk_42 (dk_at dksX5_board_7 18 rfl rfl)
theorem dX5_board_179 : decode cX5_board 179 = .ok (.getfield 18, 3) := dk_180 0 18 (dk_at dksX5_board_7 19 rfl rfl)
theorem dX5_board_182 : decode cX5_board 182 = .ok (.getfield 154, 3) := dk_180 0 154 (dk_at dksX5_board_8 0 rfl rfl)
theorem dX5_board_185 : decode cX5_board 185 = .ok (.iload 4, 2) := dk_21 4 (dk_at dksX5_board_8 3 rfl rfl)
theorem dX5_board_187 : decode cX5_board 187 = .ok (.invokestatic 158, 3) := dk_184 0 158 (dk_at dksX5_board_8 5 rfl rfl)
theorem dX5_board_190 : decode cX5_board 190 = .ok (.aload 5, 2) := dk_25 5 (dk_at dksX5_board_8 8 rfl rfl)
theorem dX5_board_192 : decode cX5_board 192 = .ok (.invokevirtual 186, 3) := dk_182 0 186 (dk_at dksX5_board_8 10 rfl rfl)
theorem dX5_board_195 : decode cX5_board 195 = .ok (.pop, 1) := dk_87 (dk_at dksX5_board_8 13 rfl rfl)
theorem dX5_board_196 : decode cX5_board 196 = .ok (.return_, 1) := dk_177 (dk_at dksX5_board_8 14 rfl rfl)
abbrev cX5_begins : ByteArray := prog_12_method_18_code
def yX5_begins : MethodName := ⟨RX5, "begins", "(II)V"⟩
def dkwX5_begins_1 : List UInt8 := [158, 0, 7, 4, 167, 0, 4, 3, 16, 6, 182, 0, 86, 42, 182, 0, 90, 177]
abbrev dktX5_begins_1 : List UInt8 := dkwX5_begins_1 ++ []
def dkwX5_begins_0 : List UInt8 := [42, 27, 28, 162, 0, 7, 4, 167, 0, 4, 3, 8, 182, 0, 86, 42, 42, 180, 0, 18, 180, 0, 121]
abbrev dktX5_begins_0 : List UInt8 := dkwX5_begins_0 ++ dktX5_begins_1
theorem dksX5_begins_0 : cX5_begins.data.toList.drop 0 = dktX5_begins_0 := by decide +kernel
theorem dksX5_begins_1 : cX5_begins.data.toList.drop 23 = dktX5_begins_1 := dk_seg dksX5_begins_0 23 rfl rfl
theorem dX5_begins_0 : decode cX5_begins 0 = .ok (.aload_n 0, 1) := dk_42 (dk_at dksX5_begins_0 0 rfl rfl)
theorem dX5_begins_1 : decode cX5_begins 1 = .ok (.iload_n 1, 1) := dk_27 (dk_at dksX5_begins_0 1 rfl rfl)
theorem dX5_begins_2 : decode cX5_begins 2 = .ok (.iload_n 2, 1) := dk_28 (dk_at dksX5_begins_0 2 rfl rfl)
theorem dX5_begins_3 : decode cX5_begins 3 = .ok (.if_icmp .ge 7, 3) := dk_162 0 7 (dk_at dksX5_begins_0 3 rfl rfl)
theorem dX5_begins_6 : decode cX5_begins 6 = .ok (.iconst 1, 1) := dk_4 (dk_at dksX5_begins_0 6 rfl rfl)
theorem dX5_begins_7 : decode cX5_begins 7 = .ok (.goto 4, 3) := dk_167 0 4 (dk_at dksX5_begins_0 7 rfl rfl)
theorem dX5_begins_10 : decode cX5_begins 10 = .ok (.iconst 0, 1) := dk_3 (dk_at dksX5_begins_0 10 rfl rfl)
theorem dX5_begins_11 : decode cX5_begins 11 = .ok (.iconst 5, 1) := dk_8 (dk_at dksX5_begins_0 11 rfl rfl)
theorem dX5_begins_12 : decode cX5_begins 12 = .ok (.invokevirtual 86, 3) := dk_182 0 86 (dk_at dksX5_begins_0 12 rfl rfl)
theorem dX5_begins_15 : decode cX5_begins 15 = .ok (.aload_n 0, 1) := dk_42 (dk_at dksX5_begins_0 15 rfl rfl)
theorem dX5_begins_16 : decode cX5_begins 16 = .ok (.aload_n 0, 1) := dk_42 (dk_at dksX5_begins_0 16 rfl rfl)
theorem dX5_begins_17 : decode cX5_begins 17 = .ok (.getfield 18, 3) := dk_180 0 18 (dk_at dksX5_begins_0 17 rfl rfl)
theorem dX5_begins_20 : decode cX5_begins 20 = .ok (.getfield 121, 3) := dk_180 0 121 (dk_at dksX5_begins_0 20 rfl rfl)
theorem dX5_begins_23 : decode cX5_begins 23 = .ok (.ifCond .le 7, 3) := dk_158 0 7 (dk_at dksX5_begins_1 0 rfl rfl)
theorem dX5_begins_26 : decode cX5_begins 26 = .ok (.iconst 1, 1) := dk_4 (dk_at dksX5_begins_1 3 rfl rfl)
theorem dX5_begins_27 : decode cX5_begins 27 = .ok (.goto 4, 3) := dk_167 0 4 (dk_at dksX5_begins_1 4 rfl rfl)
theorem dX5_begins_30 : decode cX5_begins 30 = .ok (.iconst 0, 1) := dk_3 (dk_at dksX5_begins_1 7 rfl rfl)
theorem dX5_begins_31 : decode cX5_begins 31 = .ok (.bipush 6, 2) := dk_16 6 (dk_at dksX5_begins_1 8 rfl rfl)
theorem dX5_begins_33 : decode cX5_begins 33 = .ok (.invokevirtual 86, 3) := dk_182 0 86 (dk_at dksX5_begins_1 10 rfl rfl)
theorem dX5_begins_36 : decode cX5_begins 36 = .ok (.aload_n 0, 1) := dk_42 (dk_at dksX5_begins_1 13 rfl rfl)
theorem dX5_begins_37 : decode cX5_begins 37 = .ok (.invokevirtual 90, 3) := dk_182 0 90 (dk_at dksX5_begins_1 14 rfl rfl)
theorem dX5_begins_40 : decode cX5_begins 40 = .ok (.return_, 1) := dk_177 (dk_at dksX5_begins_1 17 rfl rfl)
abbrev cX5_needName : ByteArray := prog_12_method_14_code
def yX5_needName : MethodName := ⟨RX5, "needName", "()V"⟩
def dkwX5_needName_1 : List UInt8 := [154, 0, 16, 42, 18, 107, 182, 0, 82, 154, 0, 7, 4, 167, 0, 4, 3, 4, 182, 0, 86, 177]
abbrev dktX5_needName_1 : List UInt8 := dkwX5_needName_1 ++ []
def dkwX5_needName_0 : List UInt8 := [42, 42, 180, 0, 44, 5, 160, 0, 34, 42, 18, 104, 182, 0, 82, 154, 0, 25, 42, 18, 105, 182, 0, 82]
abbrev dktX5_needName_0 : List UInt8 := dkwX5_needName_0 ++ dktX5_needName_1
theorem dksX5_needName_0 : cX5_needName.data.toList.drop 0 = dktX5_needName_0 := by decide +kernel
theorem dksX5_needName_1 : cX5_needName.data.toList.drop 24 = dktX5_needName_1 := dk_seg dksX5_needName_0 24 rfl rfl
theorem dX5_needName_0 : decode cX5_needName 0 = .ok (.aload_n 0, 1) := dk_42 (dk_at dksX5_needName_0 0 rfl rfl)
theorem dX5_needName_1 : decode cX5_needName 1 = .ok (.aload_n 0, 1) := dk_42 (dk_at dksX5_needName_0 1 rfl rfl)
theorem dX5_needName_2 : decode cX5_needName 2 = .ok (.getfield 44, 3) := dk_180 0 44 (dk_at dksX5_needName_0 2 rfl rfl)
theorem dX5_needName_5 : decode cX5_needName 5 = .ok (.iconst 2, 1) := dk_5 (dk_at dksX5_needName_0 5 rfl rfl)
theorem dX5_needName_6 : decode cX5_needName 6 = .ok (.if_icmp .ne 34, 3) := dk_160 0 34 (dk_at dksX5_needName_0 6 rfl rfl)
theorem dX5_needName_9 : decode cX5_needName 9 = .ok (.aload_n 0, 1) := dk_42 (dk_at dksX5_needName_0 9 rfl rfl)
theorem dX5_needName_10 : decode cX5_needName 10 = .ok (.ldc 104, 2) := dk_18 104 (dk_at dksX5_needName_0 10 rfl rfl)
theorem dX5_needName_12 : decode cX5_needName 12 = .ok (.invokevirtual 82, 3) := dk_182 0 82 (dk_at dksX5_needName_0 12 rfl rfl)
theorem dX5_needName_15 : decode cX5_needName 15 = .ok (.ifCond .ne 25, 3) := dk_154 0 25 (dk_at dksX5_needName_0 15 rfl rfl)
theorem dX5_needName_18 : decode cX5_needName 18 = .ok (.aload_n 0, 1) := dk_42 (dk_at dksX5_needName_0 18 rfl rfl)
theorem dX5_needName_19 : decode cX5_needName 19 = .ok (.ldc 105, 2) := dk_18 105 (dk_at dksX5_needName_0 19 rfl rfl)
theorem dX5_needName_21 : decode cX5_needName 21 = .ok (.invokevirtual 82, 3) := dk_182 0 82 (dk_at dksX5_needName_0 21 rfl rfl)
theorem dX5_needName_24 : decode cX5_needName 24 = .ok (.ifCond .ne 16, 3) := dk_154 0 16 (dk_at dksX5_needName_1 0 rfl rfl)
theorem dX5_needName_27 : decode cX5_needName 27 = .ok (.aload_n 0, 1) := dk_42 (dk_at dksX5_needName_1 3 rfl rfl)
theorem dX5_needName_28 : decode cX5_needName 28 = .ok (.ldc 107, 2) := dk_18 107 (dk_at dksX5_needName_1 4 rfl rfl)
theorem dX5_needName_30 : decode cX5_needName 30 = .ok (.invokevirtual 82, 3) := dk_182 0 82 (dk_at dksX5_needName_1 6 rfl rfl)
theorem dX5_needName_33 : decode cX5_needName 33 = .ok (.ifCond .ne 7, 3) := dk_154 0 7 (dk_at dksX5_needName_1 9 rfl rfl)
theorem dX5_needName_36 : decode cX5_needName 36 = .ok (.iconst 1, 1) := dk_4 (dk_at dksX5_needName_1 12 rfl rfl)
theorem dX5_needName_37 : decode cX5_needName 37 = .ok (.goto 4, 3) := dk_167 0 4 (dk_at dksX5_needName_1 13 rfl rfl)
theorem dX5_needName_40 : decode cX5_needName 40 = .ok (.iconst 0, 1) := dk_3 (dk_at dksX5_needName_1 16 rfl rfl)
theorem dX5_needName_41 : decode cX5_needName 41 = .ok (.iconst 1, 1) := dk_4 (dk_at dksX5_needName_1 17 rfl rfl)
theorem dX5_needName_42 : decode cX5_needName 42 = .ok (.invokevirtual 86, 3) := dk_182 0 86 (dk_at dksX5_needName_1 18 rfl rfl)
theorem dX5_needName_45 : decode cX5_needName 45 = .ok (.return_, 1) := dk_177 (dk_at dksX5_needName_1 21 rfl rfl)
abbrev cX5_ask : ByteArray := prog_12_method_20_code
def yX5_ask : MethodName := ⟨RX5, "ask", "()V"⟩
def dkwX5_ask_5 : List UInt8 := [180, 0, 208, 42, 4, 16, 99, 182, 0, 101, 183, 0, 211, 182, 0, 181, 87, 177]
abbrev dktX5_ask_5 : List UInt8 := dkwX5_ask_5 ++ []
def dkwX5_ask_4 : List UInt8 := [3, 5, 182, 0, 86, 42, 182, 0, 90, 42, 180, 0, 18, 180, 0, 190, 187, 0, 203, 89, 27, 44]
abbrev dktX5_ask_4 : List UInt8 := dkwX5_ask_4 ++ dktX5_ask_5
def dkwX5_ask_3 : List UInt8 := [182, 0, 140, 42, 180, 0, 18, 42, 180, 0, 60, 182, 0, 143, 77, 42, 44, 198, 0, 7, 4, 167, 0, 4]
abbrev dktX5_ask_3 : List UInt8 := dkwX5_ask_3 ++ dktX5_ask_4
def dkwX5_ask_2 : List UInt8 := [182, 0, 193, 4, 100, 182, 0, 199, 192, 0, 203, 182, 0, 205, 17, 3, 231, 182, 0, 101, 60, 42]
abbrev dktX5_ask_2 : List UInt8 := dkwX5_ask_2 ++ dktX5_ask_3
def dkwX5_ask_1 : List UInt8 := [182, 0, 195, 153, 0, 7, 4, 167, 0, 31, 42, 180, 0, 18, 180, 0, 190, 42, 180, 0, 18, 180, 0, 190]
abbrev dktX5_ask_1 : List UInt8 := dkwX5_ask_1 ++ dktX5_ask_2
def dkwX5_ask_0 : List UInt8 := [42, 42, 180, 0, 18, 180, 0, 190, 182, 0, 193, 16, 12, 182, 0, 137, 42, 42, 180, 0, 18, 180, 0, 190]
abbrev dktX5_ask_0 : List UInt8 := dkwX5_ask_0 ++ dktX5_ask_1
theorem dksX5_ask_0 : cX5_ask.data.toList.drop 0 = dktX5_ask_0 := by decide +kernel
theorem dksX5_ask_1 : cX5_ask.data.toList.drop 24 = dktX5_ask_1 := dk_seg dksX5_ask_0 24 rfl rfl
theorem dksX5_ask_2 : cX5_ask.data.toList.drop 48 = dktX5_ask_2 := dk_seg dksX5_ask_1 24 rfl rfl
theorem dksX5_ask_3 : cX5_ask.data.toList.drop 70 = dktX5_ask_3 := dk_seg dksX5_ask_2 22 rfl rfl
theorem dksX5_ask_4 : cX5_ask.data.toList.drop 94 = dktX5_ask_4 := dk_seg dksX5_ask_3 24 rfl rfl
theorem dksX5_ask_5 : cX5_ask.data.toList.drop 116 = dktX5_ask_5 := dk_seg dksX5_ask_4 22 rfl rfl
theorem dX5_ask_0 : decode cX5_ask 0 = .ok (.aload_n 0, 1) := dk_42 (dk_at dksX5_ask_0 0 rfl rfl)
theorem dX5_ask_1 : decode cX5_ask 1 = .ok (.aload_n 0, 1) := dk_42 (dk_at dksX5_ask_0 1 rfl rfl)
theorem dX5_ask_2 : decode cX5_ask 2 = .ok (.getfield 18, 3) := dk_180 0 18 (dk_at dksX5_ask_0 2 rfl rfl)
theorem dX5_ask_5 : decode cX5_ask 5 = .ok (.getfield 190, 3) := dk_180 0 190 (dk_at dksX5_ask_0 5 rfl rfl)
theorem dX5_ask_8 : decode cX5_ask 8 = .ok (.invokevirtual 193, 3) := dk_182 0 193 (dk_at dksX5_ask_0 8 rfl rfl)
theorem dX5_ask_11 : decode cX5_ask 11 = .ok (.bipush 12, 2) := dk_16 12 (dk_at dksX5_ask_0 11 rfl rfl)
theorem dX5_ask_13 : decode cX5_ask 13 = .ok (.invokevirtual 137, 3) := dk_182 0 137 (dk_at dksX5_ask_0 13 rfl rfl)
theorem dX5_ask_16 : decode cX5_ask 16 = .ok (.aload_n 0, 1) := dk_42 (dk_at dksX5_ask_0 16 rfl rfl)
theorem dX5_ask_17 : decode cX5_ask 17 = .ok (.aload_n 0, 1) := dk_42 (dk_at dksX5_ask_0 17 rfl rfl)
theorem dX5_ask_18 : decode cX5_ask 18 = .ok (.getfield 18, 3) := dk_180 0 18 (dk_at dksX5_ask_0 18 rfl rfl)
theorem dX5_ask_21 : decode cX5_ask 21 = .ok (.getfield 190, 3) := dk_180 0 190 (dk_at dksX5_ask_0 21 rfl rfl)
theorem dX5_ask_24 : decode cX5_ask 24 = .ok (.invokevirtual 195, 3) := dk_182 0 195 (dk_at dksX5_ask_1 0 rfl rfl)
theorem dX5_ask_27 : decode cX5_ask 27 = .ok (.ifCond .eq 7, 3) := dk_153 0 7 (dk_at dksX5_ask_1 3 rfl rfl)
theorem dX5_ask_30 : decode cX5_ask 30 = .ok (.iconst 1, 1) := dk_4 (dk_at dksX5_ask_1 6 rfl rfl)
theorem dX5_ask_31 : decode cX5_ask 31 = .ok (.goto 31, 3) := dk_167 0 31 (dk_at dksX5_ask_1 7 rfl rfl)
theorem dX5_ask_34 : decode cX5_ask 34 = .ok (.aload_n 0, 1) := dk_42 (dk_at dksX5_ask_1 10 rfl rfl)
theorem dX5_ask_35 : decode cX5_ask 35 = .ok (.getfield 18, 3) := dk_180 0 18 (dk_at dksX5_ask_1 11 rfl rfl)
theorem dX5_ask_38 : decode cX5_ask 38 = .ok (.getfield 190, 3) := dk_180 0 190 (dk_at dksX5_ask_1 14 rfl rfl)
theorem dX5_ask_41 : decode cX5_ask 41 = .ok (.aload_n 0, 1) := dk_42 (dk_at dksX5_ask_1 17 rfl rfl)
theorem dX5_ask_42 : decode cX5_ask 42 = .ok (.getfield 18, 3) := dk_180 0 18 (dk_at dksX5_ask_1 18 rfl rfl)
theorem dX5_ask_45 : decode cX5_ask 45 = .ok (.getfield 190, 3) := dk_180 0 190 (dk_at dksX5_ask_1 21 rfl rfl)
theorem dX5_ask_48 : decode cX5_ask 48 = .ok (.invokevirtual 193, 3) := dk_182 0 193 (dk_at dksX5_ask_2 0 rfl rfl)
theorem dX5_ask_51 : decode cX5_ask 51 = .ok (.iconst 1, 1) := dk_4 (dk_at dksX5_ask_2 3 rfl rfl)
theorem dX5_ask_52 : decode cX5_ask 52 = .ok (.isub, 1) := dk_100 (dk_at dksX5_ask_2 4 rfl rfl)
theorem dX5_ask_53 : decode cX5_ask 53 = .ok (.invokevirtual 199, 3) := dk_182 0 199 (dk_at dksX5_ask_2 5 rfl rfl)
theorem dX5_ask_56 : decode cX5_ask 56 = .ok (.checkcast 203, 3) := dk_192 0 203 (dk_at dksX5_ask_2 8 rfl rfl)
theorem dX5_ask_59 : decode cX5_ask 59 = .ok (.invokevirtual 205, 3) := dk_182 0 205 (dk_at dksX5_ask_2 11 rfl rfl)
theorem dX5_ask_62 : decode cX5_ask 62 = .ok (.sipush 999, 3) := dk_17 3 231 (dk_at dksX5_ask_2 14 rfl rfl)
theorem dX5_ask_65 : decode cX5_ask 65 = .ok (.invokevirtual 101, 3) := dk_182 0 101 (dk_at dksX5_ask_2 17 rfl rfl)
theorem dX5_ask_68 : decode cX5_ask 68 = .ok (.istore_n 1, 1) := dk_60 (dk_at dksX5_ask_2 20 rfl rfl)
theorem dX5_ask_69 : decode cX5_ask 69 = .ok (.aload_n 0, 1) := dk_42 (dk_at dksX5_ask_2 21 rfl rfl)
theorem dX5_ask_70 : decode cX5_ask 70 = .ok (.invokevirtual 140, 3) := dk_182 0 140 (dk_at dksX5_ask_3 0 rfl rfl)
theorem dX5_ask_73 : decode cX5_ask 73 = .ok (.aload_n 0, 1) := dk_42 (dk_at dksX5_ask_3 3 rfl rfl)
theorem dX5_ask_74 : decode cX5_ask 74 = .ok (.getfield 18, 3) := dk_180 0 18 (dk_at dksX5_ask_3 4 rfl rfl)
theorem dX5_ask_77 : decode cX5_ask 77 = .ok (.aload_n 0, 1) := dk_42 (dk_at dksX5_ask_3 7 rfl rfl)
theorem dX5_ask_78 : decode cX5_ask 78 = .ok (.getfield 60, 3) := dk_180 0 60 (dk_at dksX5_ask_3 8 rfl rfl)
theorem dX5_ask_81 : decode cX5_ask 81 = .ok (.invokevirtual 143, 3) := dk_182 0 143 (dk_at dksX5_ask_3 11 rfl rfl)
theorem dX5_ask_84 : decode cX5_ask 84 = .ok (.astore_n 2, 1) := dk_77 (dk_at dksX5_ask_3 14 rfl rfl)
theorem dX5_ask_85 : decode cX5_ask 85 = .ok (.aload_n 0, 1) := dk_42 (dk_at dksX5_ask_3 15 rfl rfl)
theorem dX5_ask_86 : decode cX5_ask 86 = .ok (.aload_n 2, 1) := dk_44 (dk_at dksX5_ask_3 16 rfl rfl)
theorem dX5_ask_87 : decode cX5_ask 87 = .ok (.ifnull 7, 3) := dk_198 0 7 (dk_at dksX5_ask_3 17 rfl rfl)
theorem dX5_ask_90 : decode cX5_ask 90 = .ok (.iconst 1, 1) := dk_4 (dk_at dksX5_ask_3 20 rfl rfl)
theorem dX5_ask_91 : decode cX5_ask 91 = .ok (.goto 4, 3) := dk_167 0 4 (dk_at dksX5_ask_3 21 rfl rfl)
theorem dX5_ask_94 : decode cX5_ask 94 = .ok (.iconst 0, 1) := dk_3 (dk_at dksX5_ask_4 0 rfl rfl)
theorem dX5_ask_95 : decode cX5_ask 95 = .ok (.iconst 2, 1) := dk_5 (dk_at dksX5_ask_4 1 rfl rfl)
theorem dX5_ask_96 : decode cX5_ask 96 = .ok (.invokevirtual 86, 3) := dk_182 0 86 (dk_at dksX5_ask_4 2 rfl rfl)
theorem dX5_ask_99 : decode cX5_ask 99 = .ok (.aload_n 0, 1) := dk_42 (dk_at dksX5_ask_4 5 rfl rfl)
theorem dX5_ask_100 : decode cX5_ask 100 = .ok (.invokevirtual 90, 3) := dk_182 0 90 (dk_at dksX5_ask_4 6 rfl rfl)
theorem dX5_ask_103 : decode cX5_ask 103 = .ok (.aload_n 0, 1) := dk_42 (dk_at dksX5_ask_4 9 rfl rfl)
theorem dX5_ask_104 : decode cX5_ask 104 = .ok (.getfield 18, 3) := dk_180 0 18 (dk_at dksX5_ask_4 10 rfl rfl)
theorem dX5_ask_107 : decode cX5_ask 107 = .ok (.getfield 190, 3) := dk_180 0 190 (dk_at dksX5_ask_4 13 rfl rfl)
theorem dX5_ask_110 : decode cX5_ask 110 = .ok (.new 203, 3) := dk_187 0 203 (dk_at dksX5_ask_4 16 rfl rfl)
theorem dX5_ask_113 : decode cX5_ask 113 = .ok (.dup, 1) := dk_89 (dk_at dksX5_ask_4 19 rfl rfl)
theorem dX5_ask_114 : decode cX5_ask 114 = .ok (.iload_n 1, 1) := dk_27 (dk_at dksX5_ask_4 20 rfl rfl)
theorem dX5_ask_115 : decode cX5_ask 115 = .ok (.aload_n 2, 1) := dk_44 (dk_at dksX5_ask_4 21 rfl rfl)
theorem dX5_ask_116 : decode cX5_ask 116 = .ok (.getfield 208, 3) := dk_180 0 208 (dk_at dksX5_ask_5 0 rfl rfl)
theorem dX5_ask_119 : decode cX5_ask 119 = .ok (.aload_n 0, 1) := dk_42 (dk_at dksX5_ask_5 3 rfl rfl)
theorem dX5_ask_120 : decode cX5_ask 120 = .ok (.iconst 1, 1) := dk_4 (dk_at dksX5_ask_5 4 rfl rfl)
theorem dX5_ask_121 : decode cX5_ask 121 = .ok (.bipush 99, 2) := dk_16 99 (dk_at dksX5_ask_5 5 rfl rfl)
theorem dX5_ask_123 : decode cX5_ask 123 = .ok (.invokevirtual 101, 3) := dk_182 0 101 (dk_at dksX5_ask_5 7 rfl rfl)
theorem dX5_ask_126 : decode cX5_ask 126 = .ok (.invokespecial 211, 3) := dk_183 0 211 (dk_at dksX5_ask_5 10 rfl rfl)
theorem dX5_ask_129 : decode cX5_ask 129 = .ok (.invokevirtual 181, 3) := dk_182 0 181 (dk_at dksX5_ask_5 13 rfl rfl)
theorem dX5_ask_132 : decode cX5_ask 132 = .ok (.pop, 1) := dk_87 (dk_at dksX5_ask_5 16 rfl rfl)
theorem dX5_ask_133 : decode cX5_ask 133 = .ok (.return_, 1) := dk_177 (dk_at dksX5_ask_5 17 rfl rfl)
theorem q109 : (Jvm.Cond.initialized "OpenLines$Reader") ∈ lw_all := lw_g (lw_at lw_m1 8 rfl) rfl
theorem q344 : (Jvm.Cond.fieldLinkNest "OpenLines$Reader" (26 : Nat) "OpenLines" "tape" "[B" "OpenLines") ∈ lw_tbl := lw_at lw_m2 3 rfl
theorem q404 : (Jvm.Cond.instantiable "OpenLines$Reader" (8 : Nat)) ∈ lw_all := lw_g (lw_at lw_m2 63 rfl) rfl
theorem q406 : (Jvm.Cond.instanceMethod ({ cls := "OpenLines$Reader", name := "<init>", desc := "(LOpenLines;I)V" } : Jvm.MethodName)) ∈ lw_all := lw_g (lw_at lw_m2 65 rfl) rfl
theorem q407 : (Jvm.Cond.code ({ cls := "OpenLines$Reader", name := "<init>", desc := "(LOpenLines;I)V" } : Jvm.MethodName) prog_12_method_1_code (3 : Nat) (Option.none : Option Jvm.ClassFile.FieldType)) ∈ lw_all := lw_g (lw_at lw_m2 66 rfl) rfl
theorem q408 : (Jvm.Cond.methodLink "OpenLines$Reader" (9 : Nat) ({ cls := "java/lang/Object", name := "<init>", desc := "()V" } : Jvm.MethodName)) ∈ lw_all := lw_g (lw_at lw_m2 67 rfl) rfl
theorem q409 : (Jvm.Cond.classLink "OpenLines$Reader" (15 : Nat) "OpenLines$Bus") ∈ lw_all := lw_g (lw_at lw_m2 68 rfl) rfl
theorem q411 : (Jvm.Cond.methodLinkNest "OpenLines$Reader" (17 : Nat) ({ cls := "OpenLines$Bus", name := "<init>", desc := "()V" } : Jvm.MethodName) "OpenLines") ∈ lw_tbl := lw_at lw_m2 70 rfl
theorem q472 : (Jvm.Cond.fieldLinkNest "OpenLines$Reader" (121 : Nat) "OpenLines$Bus" "gate" "I" "OpenLines") ∈ lw_tbl := lw_at lw_m2 131 rfl
theorem q475 : (Jvm.Cond.fieldLinkNest "OpenLines$Reader" (131 : Nat) "OpenLines$Bus" "filter" "I" "OpenLines") ∈ lw_tbl := lw_at lw_m2 134 rfl
theorem q478 : (Jvm.Cond.fieldLinkNest "OpenLines$Reader" (135 : Nat) "OpenLines$Bus" "window" "I" "OpenLines") ∈ lw_tbl := lw_at lw_m2 137 rfl
theorem q480 : (Jvm.Cond.fieldLinkNest "OpenLines$Reader" (177 : Nat) "OpenLines$Bus" "boards" "Ljava/util/ArrayList;" "OpenLines") ∈ lw_tbl := lw_at lw_m2 139 rfl
theorem q484 : (Jvm.Cond.fieldLinkNest "OpenLines$Reader" (190 : Nat) "OpenLines$Bus" "asks" "Ljava/util/ArrayList;" "OpenLines") ∈ lw_tbl := lw_at lw_m2 143 rfl
theorem q487 : (Jvm.Cond.fieldLinkNest "OpenLines$Reader" (154 : Nat) "OpenLines$Bus" "byCode" "Ljava/util/LinkedHashMap;" "OpenLines") ∈ lw_tbl := lw_at lw_m2 146 rfl
theorem q501 : (Jvm.Cond.fieldLink "OpenLines$Reader" (22 : Nat) "OpenLines$Reader" "size" "I") ∈ lw_all := lw_g (lw_at lw_m2 160 rfl) rfl
theorem q502 : (Jvm.Cond.fieldLink "OpenLines$Reader" (18 : Nat) "OpenLines$Reader" "bus" "LOpenLines$Bus;") ∈ lw_all := lw_g (lw_at lw_m2 161 rfl) rfl
theorem q503 : (Jvm.Cond.fieldLink "OpenLines$Reader" (38 : Nat) "OpenLines$Reader" "to" "I") ∈ lw_all := lw_g (lw_at lw_m2 162 rfl) rfl
theorem q504 : (Jvm.Cond.fieldLink "OpenLines$Reader" (41 : Nat) "OpenLines$Reader" "from" "I") ∈ lw_all := lw_g (lw_at lw_m2 163 rfl) rfl
theorem q505 : (Jvm.Cond.fieldLink "OpenLines$Reader" (44 : Nat) "OpenLines$Reader" "sort" "I") ∈ lw_all := lw_g (lw_at lw_m2 164 rfl) rfl
theorem q506 : (Jvm.Cond.fieldLink "OpenLines$Reader" (64 : Nat) "OpenLines$Reader" "value" "I") ∈ lw_all := lw_g (lw_at lw_m2 165 rfl) rfl
theorem q507 : (Jvm.Cond.fieldLink "OpenLines$Reader" (60 : Nat) "OpenLines$Reader" "word" "J") ∈ lw_all := lw_g (lw_at lw_m2 166 rfl) rfl
theorem q508 : (Jvm.Cond.fieldLink "OpenLines$Reader" (3 : Nat) "OpenLines$Reader" "this$0" "LOpenLines;") ∈ lw_all := lw_g (lw_at lw_m2 167 rfl) rfl
theorem q509 : (Jvm.Cond.laysFinal "OpenLines$Reader" "OpenLines$Reader" "size" "I") ∈ lw_all := lw_g (lw_at lw_m2 168 rfl) rfl
theorem q510 : (Jvm.Cond.soleField "OpenLines$Reader" "size") ∈ lw_all := lw_g (lw_at lw_m2 169 rfl) rfl
theorem q511 : (Jvm.Cond.laysFinal "OpenLines$Reader" "OpenLines$Reader" "bus" "LOpenLines$Bus;") ∈ lw_all := lw_g (lw_at lw_m2 170 rfl) rfl
theorem q512 : (Jvm.Cond.soleField "OpenLines$Reader" "bus") ∈ lw_all := lw_g (lw_at lw_m2 171 rfl) rfl
theorem q513 : (Jvm.Cond.lays "OpenLines$Reader" "OpenLines$Reader" "to" "I") ∈ lw_all := lw_g (lw_at lw_m2 172 rfl) rfl
theorem q514 : (Jvm.Cond.soleField "OpenLines$Reader" "to") ∈ lw_all := lw_g (lw_at lw_m2 173 rfl) rfl
theorem q515 : (Jvm.Cond.lays "OpenLines$Reader" "OpenLines$Reader" "from" "I") ∈ lw_all := lw_g (lw_at lw_m2 174 rfl) rfl
theorem q516 : (Jvm.Cond.soleField "OpenLines$Reader" "from") ∈ lw_all := lw_g (lw_at lw_m2 175 rfl) rfl
theorem q517 : (Jvm.Cond.lays "OpenLines$Reader" "OpenLines$Reader" "sort" "I") ∈ lw_all := lw_g (lw_at lw_m2 176 rfl) rfl
theorem q518 : (Jvm.Cond.soleField "OpenLines$Reader" "sort") ∈ lw_all := lw_g (lw_at lw_m2 177 rfl) rfl
theorem q519 : (Jvm.Cond.lays "OpenLines$Reader" "OpenLines$Reader" "value" "I") ∈ lw_all := lw_g (lw_at lw_m2 178 rfl) rfl
theorem q520 : (Jvm.Cond.soleField "OpenLines$Reader" "value") ∈ lw_all := lw_g (lw_at lw_m2 179 rfl) rfl
theorem q521 : (Jvm.Cond.lays "OpenLines$Reader" "OpenLines$Reader" "word" "J") ∈ lw_all := lw_g (lw_at lw_m2 180 rfl) rfl
theorem q522 : (Jvm.Cond.soleField "OpenLines$Reader" "word") ∈ lw_all := lw_g (lw_at lw_m2 181 rfl) rfl
theorem q523 : (Jvm.Cond.laysFinal "OpenLines$Reader" "OpenLines$Reader" "this$0" "LOpenLines;") ∈ lw_all := lw_g (lw_at lw_m2 182 rfl) rfl
theorem q524 : (Jvm.Cond.soleField "OpenLines$Reader" "this$0") ∈ lw_all := lw_g (lw_at lw_m2 183 rfl) rfl
theorem q525 : (Jvm.Cond.superclass "OpenLines$Reader" "java/lang/Object") ∈ lw_all := lw_g (lw_at lw_m2 184 rfl) rfl
theorem q527 : (Jvm.Cond.instanceMethod ({ cls := "OpenLines$Reader", name := "read", desc := "()LOpenLines$Bus;" } : Jvm.MethodName)) ∈ lw_all := lw_g (lw_at lw_m2 186 rfl) rfl
theorem q528 : (Jvm.Cond.selects "OpenLines$Reader" ({ cls := "OpenLines$Reader", name := "read", desc := "()LOpenLines$Bus;" } : Jvm.MethodName) ({ cls := "OpenLines$Reader", name := "read", desc := "()LOpenLines$Bus;" } : Jvm.MethodName)) ∈ lw_all := lw_g (lw_at lw_m2 187 rfl) rfl
theorem q529 : (Jvm.Cond.code ({ cls := "OpenLines$Reader", name := "read", desc := "()LOpenLines$Bus;" } : Jvm.MethodName) prog_12_method_15_code (1 : Nat) (Option.some (Jvm.ClassFile.FieldType.object "OpenLines$Bus"))) ∈ lw_all := lw_g (lw_at lw_m2 188 rfl) rfl
theorem q530 : (Jvm.Cond.methodLink "OpenLines$Reader" (90 : Nat) ({ cls := "OpenLines$Reader", name := "go", desc := "()V" } : Jvm.MethodName)) ∈ lw_all := lw_g (lw_at lw_m2 189 rfl) rfl
theorem q531 : (Jvm.Cond.privateMethod ({ cls := "OpenLines$Reader", name := "go", desc := "()V" } : Jvm.MethodName)) ∈ lw_tbl := lw_at lw_m2 190 rfl
theorem q532 : (Jvm.Cond.instanceMethod ({ cls := "OpenLines$Reader", name := "go", desc := "()V" } : Jvm.MethodName)) ∈ lw_all := lw_g (lw_at lw_m2 191 rfl) rfl
theorem q533 : (Jvm.Cond.code ({ cls := "OpenLines$Reader", name := "go", desc := "()V" } : Jvm.MethodName) prog_12_method_5_code (1 : Nat) (Option.none : Option Jvm.ClassFile.FieldType)) ∈ lw_all := lw_g (lw_at lw_m2 192 rfl) rfl
theorem q534 : (Jvm.Cond.methodLink "OpenLines$Reader" (30 : Nat) ({ cls := "OpenLines$Reader", name := "byteAt", desc := "(I)I" } : Jvm.MethodName)) ∈ lw_all := lw_g (lw_at lw_m2 193 rfl) rfl
theorem q535 : (Jvm.Cond.privateMethod ({ cls := "OpenLines$Reader", name := "byteAt", desc := "(I)I" } : Jvm.MethodName)) ∈ lw_tbl := lw_at lw_m2 194 rfl
theorem q536 : (Jvm.Cond.instanceMethod ({ cls := "OpenLines$Reader", name := "byteAt", desc := "(I)I" } : Jvm.MethodName)) ∈ lw_all := lw_g (lw_at lw_m2 195 rfl) rfl
theorem q537 : (Jvm.Cond.code ({ cls := "OpenLines$Reader", name := "byteAt", desc := "(I)I" } : Jvm.MethodName) prog_12_method_2_code (2 : Nat) (Option.some Jvm.ClassFile.FieldType.int)) ∈ lw_all := lw_g (lw_at lw_m2 196 rfl) rfl
theorem q538 : (Jvm.Cond.methodLink "OpenLines$Reader" (47 : Nat) ({ cls := "OpenLines$Reader", name := "isLetter", desc := "(I)Z" } : Jvm.MethodName)) ∈ lw_all := lw_g (lw_at lw_m2 197 rfl) rfl
theorem q539 : (Jvm.Cond.privateMethod ({ cls := "OpenLines$Reader", name := "isLetter", desc := "(I)Z" } : Jvm.MethodName)) ∈ lw_tbl := lw_at lw_m2 198 rfl
theorem q540 : (Jvm.Cond.instanceMethod ({ cls := "OpenLines$Reader", name := "isLetter", desc := "(I)Z" } : Jvm.MethodName)) ∈ lw_all := lw_g (lw_at lw_m2 199 rfl) rfl
theorem q541 : (Jvm.Cond.code ({ cls := "OpenLines$Reader", name := "isLetter", desc := "(I)Z" } : Jvm.MethodName) prog_12_method_3_code (2 : Nat) (Option.some Jvm.ClassFile.FieldType.boolean)) ∈ lw_all := lw_g (lw_at lw_m2 200 rfl) rfl
theorem q542 : (Jvm.Cond.methodLinkNest "OpenLines$Reader" (34 : Nat) ({ cls := "OpenLines", name := "isIn", desc := "(III)Z" } : Jvm.MethodName) "OpenLines") ∈ lw_tbl := lw_at lw_m2 201 rfl
theorem q543 : (Jvm.Cond.methodLink "OpenLines$Reader" (51 : Nat) ({ cls := "OpenLines$Reader", name := "goWord", desc := "()V" } : Jvm.MethodName)) ∈ lw_all := lw_g (lw_at lw_m2 202 rfl) rfl
theorem q544 : (Jvm.Cond.privateMethod ({ cls := "OpenLines$Reader", name := "goWord", desc := "()V" } : Jvm.MethodName)) ∈ lw_tbl := lw_at lw_m2 203 rfl
theorem q545 : (Jvm.Cond.instanceMethod ({ cls := "OpenLines$Reader", name := "goWord", desc := "()V" } : Jvm.MethodName)) ∈ lw_all := lw_g (lw_at lw_m2 204 rfl) rfl
theorem q546 : (Jvm.Cond.code ({ cls := "OpenLines$Reader", name := "goWord", desc := "()V" } : Jvm.MethodName) prog_12_method_6_code (1 : Nat) (Option.none : Option Jvm.ClassFile.FieldType)) ∈ lw_all := lw_g (lw_at lw_m2 205 rfl) rfl
theorem q547 : (Jvm.Cond.methodLink "OpenLines$Reader" (54 : Nat) ({ cls := "OpenLines$Reader", name := "isDigit", desc := "(I)Z" } : Jvm.MethodName)) ∈ lw_all := lw_g (lw_at lw_m2 206 rfl) rfl
theorem q548 : (Jvm.Cond.privateMethod ({ cls := "OpenLines$Reader", name := "isDigit", desc := "(I)Z" } : Jvm.MethodName)) ∈ lw_tbl := lw_at lw_m2 207 rfl
theorem q549 : (Jvm.Cond.instanceMethod ({ cls := "OpenLines$Reader", name := "isDigit", desc := "(I)Z" } : Jvm.MethodName)) ∈ lw_all := lw_g (lw_at lw_m2 208 rfl) rfl
theorem q550 : (Jvm.Cond.code ({ cls := "OpenLines$Reader", name := "isDigit", desc := "(I)Z" } : Jvm.MethodName) prog_12_method_4_code (2 : Nat) (Option.some Jvm.ClassFile.FieldType.boolean)) ∈ lw_all := lw_g (lw_at lw_m2 209 rfl) rfl
theorem q551 : (Jvm.Cond.methodLink "OpenLines$Reader" (57 : Nat) ({ cls := "OpenLines$Reader", name := "goNumber", desc := "()V" } : Jvm.MethodName)) ∈ lw_all := lw_g (lw_at lw_m2 210 rfl) rfl
theorem q552 : (Jvm.Cond.privateMethod ({ cls := "OpenLines$Reader", name := "goNumber", desc := "()V" } : Jvm.MethodName)) ∈ lw_tbl := lw_at lw_m2 211 rfl
theorem q553 : (Jvm.Cond.instanceMethod ({ cls := "OpenLines$Reader", name := "goNumber", desc := "()V" } : Jvm.MethodName)) ∈ lw_all := lw_g (lw_at lw_m2 212 rfl) rfl
theorem q554 : (Jvm.Cond.code ({ cls := "OpenLines$Reader", name := "goNumber", desc := "()V" } : Jvm.MethodName) prog_12_method_7_code (1 : Nat) (Option.none : Option Jvm.ClassFile.FieldType)) ∈ lw_all := lw_g (lw_at lw_m2 213 rfl) rfl
theorem q555 : (Jvm.Cond.methodLink "OpenLines$Reader" (109 : Nat) ({ cls := "OpenLines$Reader", name := "line", desc := "()V" } : Jvm.MethodName)) ∈ lw_all := lw_g (lw_at lw_m2 214 rfl) rfl
theorem q556 : (Jvm.Cond.privateMethod ({ cls := "OpenLines$Reader", name := "line", desc := "()V" } : Jvm.MethodName)) ∈ lw_tbl := lw_at lw_m2 215 rfl
theorem q557 : (Jvm.Cond.instanceMethod ({ cls := "OpenLines$Reader", name := "line", desc := "()V" } : Jvm.MethodName)) ∈ lw_all := lw_g (lw_at lw_m2 216 rfl) rfl
theorem q558 : (Jvm.Cond.code ({ cls := "OpenLines$Reader", name := "line", desc := "()V" } : Jvm.MethodName) prog_12_method_16_code (1 : Nat) (Option.none : Option Jvm.ClassFile.FieldType)) ∈ lw_all := lw_g (lw_at lw_m2 217 rfl) rfl
theorem q559 : (Jvm.Cond.stringRef "OpenLines$Reader" (104 : Nat) "bus") ∈ lw_tbl := lw_at lw_m2 218 rfl
theorem q560 : (Jvm.Cond.methodLink "OpenLines$Reader" (82 : Nat) ({ cls := "OpenLines$Reader", name := "is", desc := "(Ljava/lang/String;)Z" } : Jvm.MethodName)) ∈ lw_all := lw_g (lw_at lw_m2 219 rfl) rfl
theorem q561 : (Jvm.Cond.privateMethod ({ cls := "OpenLines$Reader", name := "is", desc := "(Ljava/lang/String;)Z" } : Jvm.MethodName)) ∈ lw_tbl := lw_at lw_m2 220 rfl
theorem q562 : (Jvm.Cond.instanceMethod ({ cls := "OpenLines$Reader", name := "is", desc := "(Ljava/lang/String;)Z" } : Jvm.MethodName)) ∈ lw_all := lw_g (lw_at lw_m2 221 rfl) rfl
theorem q563 : (Jvm.Cond.code ({ cls := "OpenLines$Reader", name := "is", desc := "(Ljava/lang/String;)Z" } : Jvm.MethodName) prog_12_method_9_code (5 : Nat) (Option.some Jvm.ClassFile.FieldType.boolean)) ∈ lw_all := lw_g (lw_at lw_m2 222 rfl) rfl
theorem q564 : (Jvm.Cond.methodLink "OpenLines$Reader" (72 : Nat) ({ cls := "java/lang/String", name := "length", desc := "()I" } : Jvm.MethodName)) ∈ lw_all := lw_g (lw_at lw_m2 223 rfl) rfl
theorem q574 : (Jvm.Cond.methodLink "OpenLines$Reader" (78 : Nat) ({ cls := "java/lang/String", name := "charAt", desc := "(I)C" } : Jvm.MethodName)) ∈ lw_all := lw_g (lw_at lw_m2 233 rfl) rfl
theorem q612 : (Jvm.Cond.methodLink "OpenLines$Reader" (115 : Nat) ({ cls := "OpenLines$Reader", name := "bus", desc := "()V" } : Jvm.MethodName)) ∈ lw_all := lw_g (lw_at lw_m3 31 rfl) rfl
theorem q613 : (Jvm.Cond.privateMethod ({ cls := "OpenLines$Reader", name := "bus", desc := "()V" } : Jvm.MethodName)) ∈ lw_tbl := lw_at lw_m3 32 rfl
theorem q614 : (Jvm.Cond.instanceMethod ({ cls := "OpenLines$Reader", name := "bus", desc := "()V" } : Jvm.MethodName)) ∈ lw_all := lw_g (lw_at lw_m3 33 rfl) rfl
theorem q615 : (Jvm.Cond.code ({ cls := "OpenLines$Reader", name := "bus", desc := "()V" } : Jvm.MethodName) prog_12_method_17_code (2 : Nat) (Option.none : Option Jvm.ClassFile.FieldType)) ∈ lw_all := lw_g (lw_at lw_m3 34 rfl) rfl
theorem q616 : (Jvm.Cond.methodLink "OpenLines$Reader" (86 : Nat) ({ cls := "OpenLines$Reader", name := "need", desc := "(ZI)V" } : Jvm.MethodName)) ∈ lw_all := lw_g (lw_at lw_m3 35 rfl) rfl
theorem q617 : (Jvm.Cond.privateMethod ({ cls := "OpenLines$Reader", name := "need", desc := "(ZI)V" } : Jvm.MethodName)) ∈ lw_tbl := lw_at lw_m3 36 rfl
theorem q618 : (Jvm.Cond.instanceMethod ({ cls := "OpenLines$Reader", name := "need", desc := "(ZI)V" } : Jvm.MethodName)) ∈ lw_all := lw_g (lw_at lw_m3 37 rfl) rfl
theorem q619 : (Jvm.Cond.code ({ cls := "OpenLines$Reader", name := "need", desc := "(ZI)V" } : Jvm.MethodName) prog_12_method_8_code (3 : Nat) (Option.none : Option Jvm.ClassFile.FieldType)) ∈ lw_all := lw_g (lw_at lw_m3 38 rfl) rfl
theorem q620 : (Jvm.Cond.classLink "OpenLines$Reader" (67 : Nat) "OpenLines$Fault") ∈ lw_all := lw_g (lw_at lw_m3 39 rfl) rfl
theorem q658 : (Jvm.Cond.methodLink "OpenLines$Reader" (69 : Nat) ({ cls := "OpenLines$Fault", name := "<init>", desc := "(II)V" } : Jvm.MethodName)) ∈ lw_all := lw_g (lw_at lw_m3 77 rfl) rfl
theorem q688 : (Jvm.Cond.stringRef "OpenLines$Reader" (124 : Nat) "gate") ∈ lw_tbl := lw_at lw_m3 107 rfl
theorem q689 : (Jvm.Cond.methodLink "OpenLines$Reader" (125 : Nat) ({ cls := "OpenLines$Reader", name := "part", desc := "(Ljava/lang/String;II)I" } : Jvm.MethodName)) ∈ lw_all := lw_g (lw_at lw_m3 108 rfl) rfl
theorem q690 : (Jvm.Cond.privateMethod ({ cls := "OpenLines$Reader", name := "part", desc := "(Ljava/lang/String;II)I" } : Jvm.MethodName)) ∈ lw_tbl := lw_at lw_m3 109 rfl
theorem q691 : (Jvm.Cond.instanceMethod ({ cls := "OpenLines$Reader", name := "part", desc := "(Ljava/lang/String;II)I" } : Jvm.MethodName)) ∈ lw_all := lw_g (lw_at lw_m3 110 rfl) rfl
theorem q692 : (Jvm.Cond.code ({ cls := "OpenLines$Reader", name := "part", desc := "(Ljava/lang/String;II)I" } : Jvm.MethodName) prog_12_method_13_code (4 : Nat) (Option.some Jvm.ClassFile.FieldType.int)) ∈ lw_all := lw_g (lw_at lw_m3 111 rfl) rfl
theorem q693 : (Jvm.Cond.methodLink "OpenLines$Reader" (97 : Nat) ({ cls := "OpenLines$Reader", name := "expect", desc := "(Ljava/lang/String;)V" } : Jvm.MethodName)) ∈ lw_all := lw_g (lw_at lw_m3 112 rfl) rfl
theorem q694 : (Jvm.Cond.privateMethod ({ cls := "OpenLines$Reader", name := "expect", desc := "(Ljava/lang/String;)V" } : Jvm.MethodName)) ∈ lw_tbl := lw_at lw_m3 113 rfl
theorem q695 : (Jvm.Cond.instanceMethod ({ cls := "OpenLines$Reader", name := "expect", desc := "(Ljava/lang/String;)V" } : Jvm.MethodName)) ∈ lw_all := lw_g (lw_at lw_m3 114 rfl) rfl
theorem q696 : (Jvm.Cond.code ({ cls := "OpenLines$Reader", name := "expect", desc := "(Ljava/lang/String;)V" } : Jvm.MethodName) prog_12_method_10_code (2 : Nat) (Option.none : Option Jvm.ClassFile.FieldType)) ∈ lw_all := lw_g (lw_at lw_m3 115 rfl) rfl
theorem q697 : (Jvm.Cond.methodLink "OpenLines$Reader" (101 : Nat) ({ cls := "OpenLines$Reader", name := "told", desc := "(II)I" } : Jvm.MethodName)) ∈ lw_all := lw_g (lw_at lw_m3 116 rfl) rfl
theorem q698 : (Jvm.Cond.privateMethod ({ cls := "OpenLines$Reader", name := "told", desc := "(II)I" } : Jvm.MethodName)) ∈ lw_tbl := lw_at lw_m3 117 rfl
theorem q699 : (Jvm.Cond.instanceMethod ({ cls := "OpenLines$Reader", name := "told", desc := "(II)I" } : Jvm.MethodName)) ∈ lw_all := lw_g (lw_at lw_m3 118 rfl) rfl
theorem q700 : (Jvm.Cond.code ({ cls := "OpenLines$Reader", name := "told", desc := "(II)I" } : Jvm.MethodName) prog_12_method_12_code (4 : Nat) (Option.some Jvm.ClassFile.FieldType.int)) ∈ lw_all := lw_g (lw_at lw_m3 119 rfl) rfl
theorem q701 : (Jvm.Cond.methodLink "OpenLines$Reader" (93 : Nat) ({ cls := "OpenLines$Reader", name := "at", desc := "(II)I" } : Jvm.MethodName)) ∈ lw_all := lw_g (lw_at lw_m3 120 rfl) rfl
theorem q702 : (Jvm.Cond.privateMethod ({ cls := "OpenLines$Reader", name := "at", desc := "(II)I" } : Jvm.MethodName)) ∈ lw_tbl := lw_at lw_m3 121 rfl
theorem q703 : (Jvm.Cond.instanceMethod ({ cls := "OpenLines$Reader", name := "at", desc := "(II)I" } : Jvm.MethodName)) ∈ lw_all := lw_g (lw_at lw_m3 122 rfl) rfl
theorem q704 : (Jvm.Cond.code ({ cls := "OpenLines$Reader", name := "at", desc := "(II)I" } : Jvm.MethodName) prog_12_method_11_code (3 : Nat) (Option.some Jvm.ClassFile.FieldType.int)) ∈ lw_all := lw_g (lw_at lw_m3 123 rfl) rfl
theorem q705 : (Jvm.Cond.stringRef "OpenLines$Reader" (129 : Nat) "filter") ∈ lw_tbl := lw_at lw_m3 124 rfl
theorem q706 : (Jvm.Cond.stringRef "OpenLines$Reader" (133 : Nat) "window") ∈ lw_tbl := lw_at lw_m3 125 rfl
theorem q707 : (Jvm.Cond.stringRef "OpenLines$Reader" (105 : Nat) "board") ∈ lw_tbl := lw_at lw_m3 126 rfl
theorem q708 : (Jvm.Cond.methodLink "OpenLines$Reader" (117 : Nat) ({ cls := "OpenLines$Reader", name := "board", desc := "()V" } : Jvm.MethodName)) ∈ lw_all := lw_g (lw_at lw_m3 127 rfl) rfl
theorem q709 : (Jvm.Cond.privateMethod ({ cls := "OpenLines$Reader", name := "board", desc := "()V" } : Jvm.MethodName)) ∈ lw_tbl := lw_at lw_m3 128 rfl
theorem q710 : (Jvm.Cond.instanceMethod ({ cls := "OpenLines$Reader", name := "board", desc := "()V" } : Jvm.MethodName)) ∈ lw_all := lw_g (lw_at lw_m3 129 rfl) rfl
theorem q711 : (Jvm.Cond.code ({ cls := "OpenLines$Reader", name := "board", desc := "()V" } : Jvm.MethodName) prog_12_method_19_code (6 : Nat) (Option.none : Option Jvm.ClassFile.FieldType)) ∈ lw_all := lw_g (lw_at lw_m3 130 rfl) rfl
theorem q712 : (Jvm.Cond.methodLink "OpenLines$Reader" (112 : Nat) ({ cls := "OpenLines$Bus", name := "many", desc := "()I" } : Jvm.MethodName)) ∈ lw_all := lw_g (lw_at lw_m3 131 rfl) rfl
theorem q720 : (Jvm.Cond.methodLink "OpenLines$Reader" (137 : Nat) ({ cls := "OpenLines$Reader", name := "begins", desc := "(II)V" } : Jvm.MethodName)) ∈ lw_all := lw_g (lw_at lw_m3 139 rfl) rfl
theorem q721 : (Jvm.Cond.privateMethod ({ cls := "OpenLines$Reader", name := "begins", desc := "(II)V" } : Jvm.MethodName)) ∈ lw_tbl := lw_at lw_m3 140 rfl
theorem q722 : (Jvm.Cond.instanceMethod ({ cls := "OpenLines$Reader", name := "begins", desc := "(II)V" } : Jvm.MethodName)) ∈ lw_all := lw_g (lw_at lw_m3 141 rfl) rfl
theorem q723 : (Jvm.Cond.code ({ cls := "OpenLines$Reader", name := "begins", desc := "(II)V" } : Jvm.MethodName) prog_12_method_18_code (3 : Nat) (Option.none : Option Jvm.ClassFile.FieldType)) ∈ lw_all := lw_g (lw_at lw_m3 142 rfl) rfl
theorem q724 : (Jvm.Cond.methodLink "OpenLines$Reader" (140 : Nat) ({ cls := "OpenLines$Reader", name := "needName", desc := "()V" } : Jvm.MethodName)) ∈ lw_all := lw_g (lw_at lw_m3 143 rfl) rfl
theorem q725 : (Jvm.Cond.privateMethod ({ cls := "OpenLines$Reader", name := "needName", desc := "()V" } : Jvm.MethodName)) ∈ lw_tbl := lw_at lw_m3 144 rfl
theorem q726 : (Jvm.Cond.instanceMethod ({ cls := "OpenLines$Reader", name := "needName", desc := "()V" } : Jvm.MethodName)) ∈ lw_all := lw_g (lw_at lw_m3 145 rfl) rfl
theorem q727 : (Jvm.Cond.code ({ cls := "OpenLines$Reader", name := "needName", desc := "()V" } : Jvm.MethodName) prog_12_method_14_code (1 : Nat) (Option.none : Option Jvm.ClassFile.FieldType)) ∈ lw_all := lw_g (lw_at lw_m3 146 rfl) rfl
theorem q728 : (Jvm.Cond.stringRef "OpenLines$Reader" (107 : Nat) "ask") ∈ lw_tbl := lw_at lw_m3 147 rfl
theorem q729 : (Jvm.Cond.methodLink "OpenLines$Reader" (143 : Nat) ({ cls := "OpenLines$Bus", name := "find", desc := "(J)LOpenLines$Board;" } : Jvm.MethodName)) ∈ lw_all := lw_g (lw_at lw_m3 148 rfl) rfl
theorem q751 : (Jvm.Cond.stringRef "OpenLines$Reader" (147 : Nat) "slot") ∈ lw_tbl := lw_at lw_m3 170 rfl
theorem q752 : (Jvm.Cond.methodLink "OpenLines$Reader" (149 : Nat) ({ cls := "OpenLines$Bus", name := "hasSlot", desc := "(I)Z" } : Jvm.MethodName)) ∈ lw_all := lw_g (lw_at lw_m3 171 rfl) rfl
theorem q756 : (Jvm.Cond.stringRef "OpenLines$Reader" (152 : Nat) "code") ∈ lw_tbl := lw_at lw_m3 175 rfl
theorem q757 : (Jvm.Cond.methodLink "OpenLines$Reader" (158 : Nat) ({ cls := "java/lang/Integer", name := "valueOf", desc := "(I)Ljava/lang/Integer;" } : Jvm.MethodName)) ∈ lw_all := lw_g (lw_at lw_m3 176 rfl) rfl
theorem q777 : (Jvm.Cond.methodLink "OpenLines$Reader" (164 : Nat) ({ cls := "java/util/LinkedHashMap", name := "containsKey", desc := "(Ljava/lang/Object;)Z" } : Jvm.MethodName)) ∈ lw_all := lw_g (lw_at lw_m3 196 rfl) rfl
theorem q811 : (Jvm.Cond.selects "OpenLines$Reader" ({ cls := "java/lang/Object", name := "hashCode", desc := "()I" } : Jvm.MethodName) ({ cls := "java/lang/Object", name := "hashCode", desc := "()I" } : Jvm.MethodName)) ∈ lw_all := lw_g (lw_at lw_m3 230 rfl) rfl
theorem q889 : (Jvm.Cond.selects "OpenLines$Reader" ({ cls := "java/lang/Object", name := "equals", desc := "(Ljava/lang/Object;)Z" } : Jvm.MethodName) ({ cls := "java/lang/Object", name := "equals", desc := "(Ljava/lang/Object;)Z" } : Jvm.MethodName)) ∈ lw_all := lw_g (lw_at lw_m4 68 rfl) rfl
theorem q942 : (Jvm.Cond.selects "OpenLines$Reader" ({ cls := "java/lang/Object", name := "getClass", desc := "()Ljava/lang/Class;" } : Jvm.MethodName) ({ cls := "java/lang/Object", name := "getClass", desc := "()Ljava/lang/Class;" } : Jvm.MethodName)) ∈ lw_all := lw_g (lw_at lw_m4 121 rfl) rfl
theorem q1127 : (Jvm.Cond.classLink "OpenLines$Reader" (170 : Nat) "OpenLines$Board") ∈ lw_all := lw_g (lw_at lw_m5 66 rfl) rfl
theorem q1129 : (Jvm.Cond.stringRef "OpenLines$Reader" (172 : Nat) "rank") ∈ lw_tbl := lw_at lw_m5 68 rfl
theorem q1130 : (Jvm.Cond.methodLink "OpenLines$Reader" (174 : Nat) ({ cls := "OpenLines$Board", name := "<init>", desc := "(JIIII)V" } : Jvm.MethodName)) ∈ lw_all := lw_g (lw_at lw_m5 69 rfl) rfl
theorem q1143 : (Jvm.Cond.fieldLinkNest "OpenLines$Reader" (208 : Nat) "OpenLines$Board" "number" "I" "OpenLines") ∈ lw_tbl := lw_at lw_m5 82 rfl
theorem q1162 : (Jvm.Cond.methodLink "OpenLines$Reader" (181 : Nat) ({ cls := "java/util/ArrayList", name := "add", desc := "(Ljava/lang/Object;)Z" } : Jvm.MethodName)) ∈ lw_all := lw_g (lw_at lw_m5 101 rfl) rfl
theorem q1202 : (Jvm.Cond.methodLink "OpenLines$Reader" (186 : Nat) ({ cls := "java/util/LinkedHashMap", name := "put", desc := "(Ljava/lang/Object;Ljava/lang/Object;)Ljava/lang/Object;" } : Jvm.MethodName)) ∈ lw_all := lw_g (lw_at lw_m5 141 rfl) rfl
theorem q1390 : (Jvm.Cond.methodLink "OpenLines$Reader" (119 : Nat) ({ cls := "OpenLines$Reader", name := "ask", desc := "()V" } : Jvm.MethodName)) ∈ lw_all := lw_g (lw_at lw_m6 89 rfl) rfl
theorem q1391 : (Jvm.Cond.privateMethod ({ cls := "OpenLines$Reader", name := "ask", desc := "()V" } : Jvm.MethodName)) ∈ lw_tbl := lw_at lw_m6 90 rfl
theorem q1392 : (Jvm.Cond.instanceMethod ({ cls := "OpenLines$Reader", name := "ask", desc := "()V" } : Jvm.MethodName)) ∈ lw_all := lw_g (lw_at lw_m6 91 rfl) rfl
theorem q1393 : (Jvm.Cond.code ({ cls := "OpenLines$Reader", name := "ask", desc := "()V" } : Jvm.MethodName) prog_12_method_20_code (3 : Nat) (Option.none : Option Jvm.ClassFile.FieldType)) ∈ lw_all := lw_g (lw_at lw_m6 92 rfl) rfl
theorem q1394 : (Jvm.Cond.methodLink "OpenLines$Reader" (193 : Nat) ({ cls := "java/util/ArrayList", name := "size", desc := "()I" } : Jvm.MethodName)) ∈ lw_all := lw_g (lw_at lw_m6 93 rfl) rfl
theorem q1395 : (Jvm.Cond.methodLink "OpenLines$Reader" (195 : Nat) ({ cls := "java/util/ArrayList", name := "isEmpty", desc := "()Z" } : Jvm.MethodName)) ∈ lw_all := lw_g (lw_at lw_m6 94 rfl) rfl
theorem q1399 : (Jvm.Cond.methodLink "OpenLines$Reader" (199 : Nat) ({ cls := "java/util/ArrayList", name := "get", desc := "(I)Ljava/lang/Object;" } : Jvm.MethodName)) ∈ lw_all := lw_g (lw_at lw_m6 98 rfl) rfl
theorem q1400 : (Jvm.Cond.classLink "OpenLines$Reader" (203 : Nat) "OpenLines$Ask") ∈ lw_all := lw_g (lw_at lw_m6 99 rfl) rfl
theorem q1401 : (Jvm.Cond.methodLink "OpenLines$Reader" (205 : Nat) ({ cls := "OpenLines$Ask", name := "time", desc := "()I" } : Jvm.MethodName)) ∈ lw_all := lw_g (lw_at lw_m6 100 rfl) rfl
theorem q1406 : (Jvm.Cond.methodLinkNest "OpenLines$Reader" (211 : Nat) ({ cls := "OpenLines$Ask", name := "<init>", desc := "(III)V" } : Jvm.MethodName) "OpenLines") ∈ lw_tbl := lw_at lw_m6 105 rfl
theorem q2665 : (Jvm.Cond.castable "OpenLines$Reader" "java/lang/Object") ∈ lw_tbl := lw_at lw_m11 164 rfl
theorem in_X5 : ∀ w ∈ wsX50, w ∈ lw_all := lw_in wsX50 [509, 511, 513, 515, 517, 519, 521, 523] (by decide +kernel) (by decide +kernel)
/-! OpenLines$Bus -/
set_option maxRecDepth 100000
def RX6 : String := "OpenLines$Bus"
def TX6 : u_T := fun k => match k with
  | 0 => ("OpenLines$Bus", "gate", "I", false)
  | 1 => ("OpenLines$Bus", "filter", "I", false)
  | 2 => ("OpenLines$Bus", "window", "I", false)
  | 3 => ("OpenLines$Bus", "boards", "Ljava/util/ArrayList;", true)
  | 4 => ("OpenLines$Bus", "asks", "Ljava/util/ArrayList;", true)
  | _ => ("OpenLines$Bus", "byCode", "Ljava/util/LinkedHashMap;", true)
def tyX6 : Nat → FieldType := fun k => match k with
  | 0 => .int
  | 1 => .int
  | 2 => .int
  | 3 => .object "java/util/ArrayList"
  | 4 => .object "java/util/ArrayList"
  | _ => .object "java/util/LinkedHashMap"
abbrev wsX60 : List Cond := u_ws RX6 TX6 6
theorem nmX6 : ∀ a, a < 6 → ∀ b, b < 6 → a ≠ b → (TX6 a).2.1 ≠ (TX6 b).2.1 := by decide +kernel
theorem tyX6_ok : ∀ k, k < 6 → parseFieldDescriptor (TX6 k).2.2.1 = some (tyX6 k) := by decide +kernel
abbrev cX6_init : ByteArray := prog_5_method_1_code
def yX6_init : MethodName := ⟨RX6, "<init>", "()V"⟩
def dkwX6_init_1 : List UInt8 := [181, 0, 16, 42, 187, 0, 19, 89, 183, 0, 21, 181, 0, 22, 177]
abbrev dktX6_init_1 : List UInt8 := dkwX6_init_1 ++ []
def dkwX6_init_0 : List UInt8 := [42, 183, 0, 1, 42, 187, 0, 7, 89, 183, 0, 9, 181, 0, 10, 42, 187, 0, 7, 89, 183, 0, 9]
abbrev dktX6_init_0 : List UInt8 := dkwX6_init_0 ++ dktX6_init_1
theorem dksX6_init_0 : cX6_init.data.toList.drop 0 = dktX6_init_0 := by decide +kernel
theorem dksX6_init_1 : cX6_init.data.toList.drop 23 = dktX6_init_1 := dk_seg dksX6_init_0 23 rfl rfl
theorem dX6_init_0 : decode cX6_init 0 = .ok (.aload_n 0, 1) := dk_42 (dk_at dksX6_init_0 0 rfl rfl)
theorem dX6_init_1 : decode cX6_init 1 = .ok (.invokespecial 1, 3) := dk_183 0 1 (dk_at dksX6_init_0 1 rfl rfl)
theorem dX6_init_4 : decode cX6_init 4 = .ok (.aload_n 0, 1) := dk_42 (dk_at dksX6_init_0 4 rfl rfl)
theorem dX6_init_5 : decode cX6_init 5 = .ok (.new 7, 3) := dk_187 0 7 (dk_at dksX6_init_0 5 rfl rfl)
theorem dX6_init_8 : decode cX6_init 8 = .ok (.dup, 1) := dk_89 (dk_at dksX6_init_0 8 rfl rfl)
theorem dX6_init_9 : decode cX6_init 9 = .ok (.invokespecial 9, 3) := dk_183 0 9 (dk_at dksX6_init_0 9 rfl rfl)
theorem dX6_init_12 : decode cX6_init 12 = .ok (.putfield 10, 3) := dk_181 0 10 (dk_at dksX6_init_0 12 rfl rfl)
theorem dX6_init_15 : decode cX6_init 15 = .ok (.aload_n 0, 1) := dk_42 (dk_at dksX6_init_0 15 rfl rfl)
theorem dX6_init_16 : decode cX6_init 16 = .ok (.new 7, 3) := dk_187 0 7 (dk_at dksX6_init_0 16 rfl rfl)
theorem dX6_init_19 : decode cX6_init 19 = .ok (.dup, 1) := dk_89 (dk_at dksX6_init_0 19 rfl rfl)
theorem dX6_init_20 : decode cX6_init 20 = .ok (.invokespecial 9, 3) := dk_183 0 9 (dk_at dksX6_init_0 20 rfl rfl)
theorem dX6_init_23 : decode cX6_init 23 = .ok (.putfield 16, 3) := dk_181 0 16 (dk_at dksX6_init_1 0 rfl rfl)
theorem dX6_init_26 : decode cX6_init 26 = .ok (.aload_n 0, 1) := dk_42 (dk_at dksX6_init_1 3 rfl rfl)
theorem dX6_init_27 : decode cX6_init 27 = .ok (.new 19, 3) := dk_187 0 19 (dk_at dksX6_init_1 4 rfl rfl)
theorem dX6_init_30 : decode cX6_init 30 = .ok (.dup, 1) := dk_89 (dk_at dksX6_init_1 7 rfl rfl)
theorem dX6_init_31 : decode cX6_init 31 = .ok (.invokespecial 21, 3) := dk_183 0 21 (dk_at dksX6_init_1 8 rfl rfl)
theorem dX6_init_34 : decode cX6_init 34 = .ok (.putfield 22, 3) := dk_181 0 22 (dk_at dksX6_init_1 11 rfl rfl)
theorem dX6_init_37 : decode cX6_init 37 = .ok (.return_, 1) := dk_177 (dk_at dksX6_init_1 14 rfl rfl)
abbrev cX6_many : ByteArray := prog_5_method_2_code
def yX6_many : MethodName := ⟨RX6, "many", "()I"⟩
def dkwX6_many_0 : List UInt8 := [42, 180, 0, 10, 182, 0, 26, 172]
abbrev dktX6_many_0 : List UInt8 := dkwX6_many_0 ++ []
theorem dksX6_many_0 : cX6_many.data.toList.drop 0 = dktX6_many_0 := by decide +kernel
theorem dX6_many_0 : decode cX6_many 0 = .ok (.aload_n 0, 1) := dk_42 (dk_at dksX6_many_0 0 rfl rfl)
theorem dX6_many_1 : decode cX6_many 1 = .ok (.getfield 10, 3) := dk_180 0 10 (dk_at dksX6_many_0 1 rfl rfl)
theorem dX6_many_4 : decode cX6_many 4 = .ok (.invokevirtual 26, 3) := dk_182 0 26 (dk_at dksX6_many_0 4 rfl rfl)
theorem dX6_many_7 : decode cX6_many 7 = .ok (.ireturn, 1) := dk_172 (dk_at dksX6_many_0 7 rfl rfl)
abbrev cX6_find : ByteArray := prog_5_method_5_code
def yX6_find : MethodName := ⟨RX6, "find", "(J)LOpenLines$Board;"⟩
def dkwX6_find_1 : List UInt8 := [29, 182, 0, 36, 176, 132, 3, 1, 167, 255, 226, 1, 176]
abbrev dktX6_find_1 : List UInt8 := dkwX6_find_1 ++ []
def dkwX6_find_0 : List UInt8 := [3, 62, 29, 42, 182, 0, 50, 162, 0, 28, 42, 29, 182, 0, 36, 180, 0, 53, 31, 148, 154, 0, 9, 42]
abbrev dktX6_find_0 : List UInt8 := dkwX6_find_0 ++ dktX6_find_1
theorem dksX6_find_0 : cX6_find.data.toList.drop 0 = dktX6_find_0 := by decide +kernel
theorem dksX6_find_1 : cX6_find.data.toList.drop 24 = dktX6_find_1 := dk_seg dksX6_find_0 24 rfl rfl
theorem dX6_find_0 : decode cX6_find 0 = .ok (.iconst 0, 1) := dk_3 (dk_at dksX6_find_0 0 rfl rfl)
theorem dX6_find_1 : decode cX6_find 1 = .ok (.istore_n 3, 1) := dk_62 (dk_at dksX6_find_0 1 rfl rfl)
theorem dX6_find_2 : decode cX6_find 2 = .ok (.iload_n 3, 1) := dk_29 (dk_at dksX6_find_0 2 rfl rfl)
theorem dX6_find_3 : decode cX6_find 3 = .ok (.aload_n 0, 1) := dk_42 (dk_at dksX6_find_0 3 rfl rfl)
theorem dX6_find_4 : decode cX6_find 4 = .ok (.invokevirtual 50, 3) := dk_182 0 50 (dk_at dksX6_find_0 4 rfl rfl)
theorem dX6_find_7 : decode cX6_find 7 = .ok (.if_icmp .ge 28, 3) := dk_162 0 28 (dk_at dksX6_find_0 7 rfl rfl)
theorem dX6_find_10 : decode cX6_find 10 = .ok (.aload_n 0, 1) := dk_42 (dk_at dksX6_find_0 10 rfl rfl)
theorem dX6_find_11 : decode cX6_find 11 = .ok (.iload_n 3, 1) := dk_29 (dk_at dksX6_find_0 11 rfl rfl)
theorem dX6_find_12 : decode cX6_find 12 = .ok (.invokevirtual 36, 3) := dk_182 0 36 (dk_at dksX6_find_0 12 rfl rfl)
theorem dX6_find_15 : decode cX6_find 15 = .ok (.getfield 53, 3) := dk_180 0 53 (dk_at dksX6_find_0 15 rfl rfl)
theorem dX6_find_18 : decode cX6_find 18 = .ok (.lload_n 1, 1) := dk_31 (dk_at dksX6_find_0 18 rfl rfl)
theorem dX6_find_19 : decode cX6_find 19 = .ok (.lcmp, 1) := dk_148 (dk_at dksX6_find_0 19 rfl rfl)
theorem dX6_find_20 : decode cX6_find 20 = .ok (.ifCond .ne 9, 3) := dk_154 0 9 (dk_at dksX6_find_0 20 rfl rfl)
theorem dX6_find_23 : decode cX6_find 23 = .ok (.aload_n 0, 1) := dk_42 (dk_at dksX6_find_0 23 rfl rfl)
theorem dX6_find_24 : decode cX6_find 24 = .ok (.iload_n 3, 1) := dk_29 (dk_at dksX6_find_1 0 rfl rfl)
theorem dX6_find_25 : decode cX6_find 25 = .ok (.invokevirtual 36, 3) := dk_182 0 36 (dk_at dksX6_find_1 1 rfl rfl)
theorem dX6_find_28 : decode cX6_find 28 = .ok (.areturn, 1) := dk_176 (dk_at dksX6_find_1 4 rfl rfl)
theorem dX6_find_29 : decode cX6_find 29 = .ok (.iinc 3 1, 3) := dk_132 3 1 (dk_at dksX6_find_1 5 rfl rfl)
theorem dX6_find_32 : decode cX6_find 32 = .ok (.goto (-30), 3) := dk_167 255 226 (dk_at dksX6_find_1 8 rfl rfl)
theorem dX6_find_35 : decode cX6_find 35 = .ok (.aconst_null, 1) := dk_1 (dk_at dksX6_find_1 11 rfl rfl)
theorem dX6_find_36 : decode cX6_find 36 = .ok (.areturn, 1) := dk_176 (dk_at dksX6_find_1 12 rfl rfl)
abbrev cX6_board : ByteArray := prog_5_method_3_code
def yX6_board : MethodName := ⟨RX6, "board", "(I)LOpenLines$Board;"⟩
def dkwX6_board_0 : List UInt8 := [42, 180, 0, 10, 27, 182, 0, 30, 192, 0, 34, 176]
abbrev dktX6_board_0 : List UInt8 := dkwX6_board_0 ++ []
theorem dksX6_board_0 : cX6_board.data.toList.drop 0 = dktX6_board_0 := by decide +kernel
theorem dX6_board_0 : decode cX6_board 0 = .ok (.aload_n 0, 1) := dk_42 (dk_at dksX6_board_0 0 rfl rfl)
theorem dX6_board_1 : decode cX6_board 1 = .ok (.getfield 10, 3) := dk_180 0 10 (dk_at dksX6_board_0 1 rfl rfl)
theorem dX6_board_4 : decode cX6_board 4 = .ok (.iload_n 1, 1) := dk_27 (dk_at dksX6_board_0 4 rfl rfl)
theorem dX6_board_5 : decode cX6_board 5 = .ok (.invokevirtual 30, 3) := dk_182 0 30 (dk_at dksX6_board_0 5 rfl rfl)
theorem dX6_board_8 : decode cX6_board 8 = .ok (.checkcast 34, 3) := dk_192 0 34 (dk_at dksX6_board_0 8 rfl rfl)
theorem dX6_board_11 : decode cX6_board 11 = .ok (.areturn, 1) := dk_176 (dk_at dksX6_board_0 11 rfl rfl)
abbrev cX6_hasSlot : ByteArray := prog_5_method_6_code
def yX6_hasSlot : MethodName := ⟨RX6, "hasSlot", "(I)Z"⟩
def dkwX6_hasSlot_1 : List UInt8 := [132, 2, 1, 167, 255, 231, 3, 172]
abbrev dktX6_hasSlot_1 : List UInt8 := dkwX6_hasSlot_1 ++ []
def dkwX6_hasSlot_0 : List UInt8 := [3, 61, 28, 42, 182, 0, 50, 162, 0, 23, 42, 28, 182, 0, 36, 180, 0, 40, 27, 160, 0, 5, 4, 172]
abbrev dktX6_hasSlot_0 : List UInt8 := dkwX6_hasSlot_0 ++ dktX6_hasSlot_1
theorem dksX6_hasSlot_0 : cX6_hasSlot.data.toList.drop 0 = dktX6_hasSlot_0 := by decide +kernel
theorem dksX6_hasSlot_1 : cX6_hasSlot.data.toList.drop 24 = dktX6_hasSlot_1 := dk_seg dksX6_hasSlot_0 24 rfl rfl
theorem dX6_hasSlot_0 : decode cX6_hasSlot 0 = .ok (.iconst 0, 1) := dk_3 (dk_at dksX6_hasSlot_0 0 rfl rfl)
theorem dX6_hasSlot_1 : decode cX6_hasSlot 1 = .ok (.istore_n 2, 1) := dk_61 (dk_at dksX6_hasSlot_0 1 rfl rfl)
theorem dX6_hasSlot_2 : decode cX6_hasSlot 2 = .ok (.iload_n 2, 1) := dk_28 (dk_at dksX6_hasSlot_0 2 rfl rfl)
theorem dX6_hasSlot_3 : decode cX6_hasSlot 3 = .ok (.aload_n 0, 1) := dk_42 (dk_at dksX6_hasSlot_0 3 rfl rfl)
theorem dX6_hasSlot_4 : decode cX6_hasSlot 4 = .ok (.invokevirtual 50, 3) := dk_182 0 50 (dk_at dksX6_hasSlot_0 4 rfl rfl)
theorem dX6_hasSlot_7 : decode cX6_hasSlot 7 = .ok (.if_icmp .ge 23, 3) := dk_162 0 23 (dk_at dksX6_hasSlot_0 7 rfl rfl)
theorem dX6_hasSlot_10 : decode cX6_hasSlot 10 = .ok (.aload_n 0, 1) := dk_42 (dk_at dksX6_hasSlot_0 10 rfl rfl)
theorem dX6_hasSlot_11 : decode cX6_hasSlot 11 = .ok (.iload_n 2, 1) := dk_28 (dk_at dksX6_hasSlot_0 11 rfl rfl)
theorem dX6_hasSlot_12 : decode cX6_hasSlot 12 = .ok (.invokevirtual 36, 3) := dk_182 0 36 (dk_at dksX6_hasSlot_0 12 rfl rfl)
theorem dX6_hasSlot_15 : decode cX6_hasSlot 15 = .ok (.getfield 40, 3) := dk_180 0 40 (dk_at dksX6_hasSlot_0 15 rfl rfl)
theorem dX6_hasSlot_18 : decode cX6_hasSlot 18 = .ok (.iload_n 1, 1) := dk_27 (dk_at dksX6_hasSlot_0 18 rfl rfl)
theorem dX6_hasSlot_19 : decode cX6_hasSlot 19 = .ok (.if_icmp .ne 5, 3) := dk_160 0 5 (dk_at dksX6_hasSlot_0 19 rfl rfl)
theorem dX6_hasSlot_22 : decode cX6_hasSlot 22 = .ok (.iconst 1, 1) := dk_4 (dk_at dksX6_hasSlot_0 22 rfl rfl)
theorem dX6_hasSlot_23 : decode cX6_hasSlot 23 = .ok (.ireturn, 1) := dk_172 (dk_at dksX6_hasSlot_0 23 rfl rfl)
theorem dX6_hasSlot_24 : decode cX6_hasSlot 24 = .ok (.iinc 2 1, 3) := dk_132 2 1 (dk_at dksX6_hasSlot_1 0 rfl rfl)
theorem dX6_hasSlot_27 : decode cX6_hasSlot 27 = .ok (.goto (-25), 3) := dk_167 255 231 (dk_at dksX6_hasSlot_1 3 rfl rfl)
theorem dX6_hasSlot_30 : decode cX6_hasSlot 30 = .ok (.iconst 0, 1) := dk_3 (dk_at dksX6_hasSlot_1 6 rfl rfl)
theorem dX6_hasSlot_31 : decode cX6_hasSlot 31 = .ok (.ireturn, 1) := dk_172 (dk_at dksX6_hasSlot_1 7 rfl rfl)
abbrev cX6_apart : ByteArray := prog_5_method_4_code
def yX6_apart : MethodName := ⟨RX6, "apart", "(II)I"⟩
def dkwX6_apart_0 : List UInt8 := [42, 27, 182, 0, 36, 180, 0, 40, 42, 28, 182, 0, 36, 180, 0, 40, 100, 184, 0, 44, 172]
abbrev dktX6_apart_0 : List UInt8 := dkwX6_apart_0 ++ []
theorem dksX6_apart_0 : cX6_apart.data.toList.drop 0 = dktX6_apart_0 := by decide +kernel
theorem dX6_apart_0 : decode cX6_apart 0 = .ok (.aload_n 0, 1) := dk_42 (dk_at dksX6_apart_0 0 rfl rfl)
theorem dX6_apart_1 : decode cX6_apart 1 = .ok (.iload_n 1, 1) := dk_27 (dk_at dksX6_apart_0 1 rfl rfl)
theorem dX6_apart_2 : decode cX6_apart 2 = .ok (.invokevirtual 36, 3) := dk_182 0 36 (dk_at dksX6_apart_0 2 rfl rfl)
theorem dX6_apart_5 : decode cX6_apart 5 = .ok (.getfield 40, 3) := dk_180 0 40 (dk_at dksX6_apart_0 5 rfl rfl)
theorem dX6_apart_8 : decode cX6_apart 8 = .ok (.aload_n 0, 1) := dk_42 (dk_at dksX6_apart_0 8 rfl rfl)
theorem dX6_apart_9 : decode cX6_apart 9 = .ok (.iload_n 2, 1) := dk_28 (dk_at dksX6_apart_0 9 rfl rfl)
theorem dX6_apart_10 : decode cX6_apart 10 = .ok (.invokevirtual 36, 3) := dk_182 0 36 (dk_at dksX6_apart_0 10 rfl rfl)
theorem dX6_apart_13 : decode cX6_apart 13 = .ok (.getfield 40, 3) := dk_180 0 40 (dk_at dksX6_apart_0 13 rfl rfl)
theorem dX6_apart_16 : decode cX6_apart 16 = .ok (.isub, 1) := dk_100 (dk_at dksX6_apart_0 16 rfl rfl)
theorem dX6_apart_17 : decode cX6_apart 17 = .ok (.invokestatic 44, 3) := dk_184 0 44 (dk_at dksX6_apart_0 17 rfl rfl)
theorem dX6_apart_20 : decode cX6_apart 20 = .ok (.ireturn, 1) := dk_172 (dk_at dksX6_apart_0 20 rfl rfl)
abbrev cX6_those : ByteArray := prog_5_method_7_code
def yX6_those : MethodName := ⟨RX6, "those", "(I)Ljava/lang/Iterable;"⟩
def dkwX6_those_0 : List UInt8 := [187, 0, 57, 89, 42, 27, 183, 0, 59, 176]
abbrev dktX6_those_0 : List UInt8 := dkwX6_those_0 ++ []
theorem dksX6_those_0 : cX6_those.data.toList.drop 0 = dktX6_those_0 := by decide +kernel
theorem dX6_those_0 : decode cX6_those 0 = .ok (.new 57, 3) := dk_187 0 57 (dk_at dksX6_those_0 0 rfl rfl)
theorem dX6_those_3 : decode cX6_those 3 = .ok (.dup, 1) := dk_89 (dk_at dksX6_those_0 3 rfl rfl)
theorem dX6_those_4 : decode cX6_those 4 = .ok (.aload_n 0, 1) := dk_42 (dk_at dksX6_those_0 4 rfl rfl)
theorem dX6_those_5 : decode cX6_those 5 = .ok (.iload_n 1, 1) := dk_27 (dk_at dksX6_those_0 5 rfl rfl)
theorem dX6_those_6 : decode cX6_those 6 = .ok (.invokespecial 59, 3) := dk_183 0 59 (dk_at dksX6_those_0 6 rfl rfl)
theorem dX6_those_9 : decode cX6_those 9 = .ok (.areturn, 1) := dk_176 (dk_at dksX6_those_0 9 rfl rfl)
theorem q110 : (Jvm.Cond.initialized "OpenLines$Bus") ∈ lw_all := lw_g (lw_at lw_m1 9 rfl) rfl
theorem q410 : (Jvm.Cond.instantiable "OpenLines$Bus" (6 : Nat)) ∈ lw_all := lw_g (lw_at lw_m2 69 rfl) rfl
theorem q412 : (Jvm.Cond.instanceMethod ({ cls := "OpenLines$Bus", name := "<init>", desc := "()V" } : Jvm.MethodName)) ∈ lw_all := lw_g (lw_at lw_m2 71 rfl) rfl
theorem q413 : (Jvm.Cond.code ({ cls := "OpenLines$Bus", name := "<init>", desc := "()V" } : Jvm.MethodName) prog_5_method_1_code (1 : Nat) (Option.none : Option Jvm.ClassFile.FieldType)) ∈ lw_all := lw_g (lw_at lw_m2 72 rfl) rfl
theorem q414 : (Jvm.Cond.methodLink "OpenLines$Bus" (1 : Nat) ({ cls := "java/lang/Object", name := "<init>", desc := "()V" } : Jvm.MethodName)) ∈ lw_all := lw_g (lw_at lw_m2 73 rfl) rfl
theorem q415 : (Jvm.Cond.classLink "OpenLines$Bus" (7 : Nat) "java/util/ArrayList") ∈ lw_all := lw_g (lw_at lw_m2 74 rfl) rfl
theorem q416 : (Jvm.Cond.methodLink "OpenLines$Bus" (9 : Nat) ({ cls := "java/util/ArrayList", name := "<init>", desc := "()V" } : Jvm.MethodName)) ∈ lw_all := lw_g (lw_at lw_m2 75 rfl) rfl
theorem q421 : (Jvm.Cond.classLink "OpenLines$Bus" (19 : Nat) "java/util/LinkedHashMap") ∈ lw_all := lw_g (lw_at lw_m2 80 rfl) rfl
theorem q423 : (Jvm.Cond.methodLink "OpenLines$Bus" (21 : Nat) ({ cls := "java/util/LinkedHashMap", name := "<init>", desc := "()V" } : Jvm.MethodName)) ∈ lw_all := lw_g (lw_at lw_m2 82 rfl) rfl
theorem q479 : (Jvm.Cond.fieldLink "OpenLines$Bus" (10 : Nat) "OpenLines$Bus" "boards" "Ljava/util/ArrayList;") ∈ lw_all := lw_g (lw_at lw_m2 138 rfl) rfl
theorem q481 : (Jvm.Cond.fieldLink "OpenLines$Bus" (16 : Nat) "OpenLines$Bus" "asks" "Ljava/util/ArrayList;") ∈ lw_all := lw_g (lw_at lw_m2 140 rfl) rfl
theorem q485 : (Jvm.Cond.fieldLink "OpenLines$Bus" (22 : Nat) "OpenLines$Bus" "byCode" "Ljava/util/LinkedHashMap;") ∈ lw_all := lw_g (lw_at lw_m2 144 rfl) rfl
theorem q488 : (Jvm.Cond.lays "OpenLines$Bus" "OpenLines$Bus" "gate" "I") ∈ lw_all := lw_g (lw_at lw_m2 147 rfl) rfl
theorem q489 : (Jvm.Cond.soleField "OpenLines$Bus" "gate") ∈ lw_all := lw_g (lw_at lw_m2 148 rfl) rfl
theorem q490 : (Jvm.Cond.lays "OpenLines$Bus" "OpenLines$Bus" "filter" "I") ∈ lw_all := lw_g (lw_at lw_m2 149 rfl) rfl
theorem q491 : (Jvm.Cond.soleField "OpenLines$Bus" "filter") ∈ lw_all := lw_g (lw_at lw_m2 150 rfl) rfl
theorem q492 : (Jvm.Cond.lays "OpenLines$Bus" "OpenLines$Bus" "window" "I") ∈ lw_all := lw_g (lw_at lw_m2 151 rfl) rfl
theorem q493 : (Jvm.Cond.soleField "OpenLines$Bus" "window") ∈ lw_all := lw_g (lw_at lw_m2 152 rfl) rfl
theorem q494 : (Jvm.Cond.laysFinal "OpenLines$Bus" "OpenLines$Bus" "boards" "Ljava/util/ArrayList;") ∈ lw_all := lw_g (lw_at lw_m2 153 rfl) rfl
theorem q495 : (Jvm.Cond.soleField "OpenLines$Bus" "boards") ∈ lw_all := lw_g (lw_at lw_m2 154 rfl) rfl
theorem q496 : (Jvm.Cond.laysFinal "OpenLines$Bus" "OpenLines$Bus" "asks" "Ljava/util/ArrayList;") ∈ lw_all := lw_g (lw_at lw_m2 155 rfl) rfl
theorem q497 : (Jvm.Cond.soleField "OpenLines$Bus" "asks") ∈ lw_all := lw_g (lw_at lw_m2 156 rfl) rfl
theorem q498 : (Jvm.Cond.laysFinal "OpenLines$Bus" "OpenLines$Bus" "byCode" "Ljava/util/LinkedHashMap;") ∈ lw_all := lw_g (lw_at lw_m2 157 rfl) rfl
theorem q499 : (Jvm.Cond.soleField "OpenLines$Bus" "byCode") ∈ lw_all := lw_g (lw_at lw_m2 158 rfl) rfl
theorem q500 : (Jvm.Cond.superclass "OpenLines$Bus" "java/lang/Object") ∈ lw_all := lw_g (lw_at lw_m2 159 rfl) rfl
theorem q713 : (Jvm.Cond.instanceMethod ({ cls := "OpenLines$Bus", name := "many", desc := "()I" } : Jvm.MethodName)) ∈ lw_all := lw_g (lw_at lw_m3 132 rfl) rfl
theorem q714 : (Jvm.Cond.selects "OpenLines$Bus" ({ cls := "OpenLines$Bus", name := "many", desc := "()I" } : Jvm.MethodName) ({ cls := "OpenLines$Bus", name := "many", desc := "()I" } : Jvm.MethodName)) ∈ lw_all := lw_g (lw_at lw_m3 133 rfl) rfl
theorem q715 : (Jvm.Cond.code ({ cls := "OpenLines$Bus", name := "many", desc := "()I" } : Jvm.MethodName) prog_5_method_2_code (1 : Nat) (Option.some Jvm.ClassFile.FieldType.int)) ∈ lw_all := lw_g (lw_at lw_m3 134 rfl) rfl
theorem q716 : (Jvm.Cond.methodLink "OpenLines$Bus" (26 : Nat) ({ cls := "java/util/ArrayList", name := "size", desc := "()I" } : Jvm.MethodName)) ∈ lw_all := lw_g (lw_at lw_m3 135 rfl) rfl
theorem q730 : (Jvm.Cond.instanceMethod ({ cls := "OpenLines$Bus", name := "find", desc := "(J)LOpenLines$Board;" } : Jvm.MethodName)) ∈ lw_all := lw_g (lw_at lw_m3 149 rfl) rfl
theorem q731 : (Jvm.Cond.selects "OpenLines$Bus" ({ cls := "OpenLines$Bus", name := "find", desc := "(J)LOpenLines$Board;" } : Jvm.MethodName) ({ cls := "OpenLines$Bus", name := "find", desc := "(J)LOpenLines$Board;" } : Jvm.MethodName)) ∈ lw_all := lw_g (lw_at lw_m3 150 rfl) rfl
theorem q732 : (Jvm.Cond.code ({ cls := "OpenLines$Bus", name := "find", desc := "(J)LOpenLines$Board;" } : Jvm.MethodName) prog_5_method_5_code (4 : Nat) (Option.some (Jvm.ClassFile.FieldType.object "OpenLines$Board"))) ∈ lw_all := lw_g (lw_at lw_m3 151 rfl) rfl
theorem q733 : (Jvm.Cond.methodLink "OpenLines$Bus" (50 : Nat) ({ cls := "OpenLines$Bus", name := "many", desc := "()I" } : Jvm.MethodName)) ∈ lw_all := lw_g (lw_at lw_m3 152 rfl) rfl
theorem q734 : (Jvm.Cond.methodLink "OpenLines$Bus" (36 : Nat) ({ cls := "OpenLines$Bus", name := "board", desc := "(I)LOpenLines$Board;" } : Jvm.MethodName)) ∈ lw_all := lw_g (lw_at lw_m3 153 rfl) rfl
theorem q735 : (Jvm.Cond.instanceMethod ({ cls := "OpenLines$Bus", name := "board", desc := "(I)LOpenLines$Board;" } : Jvm.MethodName)) ∈ lw_all := lw_g (lw_at lw_m3 154 rfl) rfl
theorem q736 : (Jvm.Cond.selects "OpenLines$Bus" ({ cls := "OpenLines$Bus", name := "board", desc := "(I)LOpenLines$Board;" } : Jvm.MethodName) ({ cls := "OpenLines$Bus", name := "board", desc := "(I)LOpenLines$Board;" } : Jvm.MethodName)) ∈ lw_all := lw_g (lw_at lw_m3 155 rfl) rfl
theorem q737 : (Jvm.Cond.code ({ cls := "OpenLines$Bus", name := "board", desc := "(I)LOpenLines$Board;" } : Jvm.MethodName) prog_5_method_3_code (2 : Nat) (Option.some (Jvm.ClassFile.FieldType.object "OpenLines$Board"))) ∈ lw_all := lw_g (lw_at lw_m3 156 rfl) rfl
theorem q738 : (Jvm.Cond.methodLink "OpenLines$Bus" (30 : Nat) ({ cls := "java/util/ArrayList", name := "get", desc := "(I)Ljava/lang/Object;" } : Jvm.MethodName)) ∈ lw_all := lw_g (lw_at lw_m3 157 rfl) rfl
theorem q750 : (Jvm.Cond.classLink "OpenLines$Bus" (34 : Nat) "OpenLines$Board") ∈ lw_all := lw_g (lw_at lw_m3 169 rfl) rfl
theorem q753 : (Jvm.Cond.instanceMethod ({ cls := "OpenLines$Bus", name := "hasSlot", desc := "(I)Z" } : Jvm.MethodName)) ∈ lw_all := lw_g (lw_at lw_m3 172 rfl) rfl
theorem q754 : (Jvm.Cond.selects "OpenLines$Bus" ({ cls := "OpenLines$Bus", name := "hasSlot", desc := "(I)Z" } : Jvm.MethodName) ({ cls := "OpenLines$Bus", name := "hasSlot", desc := "(I)Z" } : Jvm.MethodName)) ∈ lw_all := lw_g (lw_at lw_m3 173 rfl) rfl
theorem q755 : (Jvm.Cond.code ({ cls := "OpenLines$Bus", name := "hasSlot", desc := "(I)Z" } : Jvm.MethodName) prog_5_method_6_code (3 : Nat) (Option.some Jvm.ClassFile.FieldType.boolean)) ∈ lw_all := lw_g (lw_at lw_m3 174 rfl) rfl
theorem q803 : (Jvm.Cond.selects "OpenLines$Bus" ({ cls := "java/lang/Object", name := "hashCode", desc := "()I" } : Jvm.MethodName) ({ cls := "java/lang/Object", name := "hashCode", desc := "()I" } : Jvm.MethodName)) ∈ lw_all := lw_g (lw_at lw_m3 222 rfl) rfl
theorem q881 : (Jvm.Cond.selects "OpenLines$Bus" ({ cls := "java/lang/Object", name := "equals", desc := "(Ljava/lang/Object;)Z" } : Jvm.MethodName) ({ cls := "java/lang/Object", name := "equals", desc := "(Ljava/lang/Object;)Z" } : Jvm.MethodName)) ∈ lw_all := lw_g (lw_at lw_m4 60 rfl) rfl
theorem q936 : (Jvm.Cond.selects "OpenLines$Bus" ({ cls := "java/lang/Object", name := "getClass", desc := "()Ljava/lang/Class;" } : Jvm.MethodName) ({ cls := "java/lang/Object", name := "getClass", desc := "()Ljava/lang/Class;" } : Jvm.MethodName)) ∈ lw_all := lw_g (lw_at lw_m4 115 rfl) rfl
theorem q1138 : (Jvm.Cond.fieldLinkNest "OpenLines$Bus" (53 : Nat) "OpenLines$Board" "name" "J" "OpenLines") ∈ lw_tbl := lw_at lw_m5 77 rfl
theorem q1145 : (Jvm.Cond.fieldLinkNest "OpenLines$Bus" (40 : Nat) "OpenLines$Board" "slot" "I" "OpenLines") ∈ lw_tbl := lw_at lw_m5 84 rfl
theorem q1614 : (Jvm.Cond.instanceMethod ({ cls := "OpenLines$Bus", name := "apart", desc := "(II)I" } : Jvm.MethodName)) ∈ lw_all := lw_g (lw_at lw_m7 73 rfl) rfl
theorem q1615 : (Jvm.Cond.selects "OpenLines$Bus" ({ cls := "OpenLines$Bus", name := "apart", desc := "(II)I" } : Jvm.MethodName) ({ cls := "OpenLines$Bus", name := "apart", desc := "(II)I" } : Jvm.MethodName)) ∈ lw_all := lw_g (lw_at lw_m7 74 rfl) rfl
theorem q1616 : (Jvm.Cond.code ({ cls := "OpenLines$Bus", name := "apart", desc := "(II)I" } : Jvm.MethodName) prog_5_method_4_code (3 : Nat) (Option.some Jvm.ClassFile.FieldType.int)) ∈ lw_all := lw_g (lw_at lw_m7 75 rfl) rfl
theorem q1617 : (Jvm.Cond.methodLink "OpenLines$Bus" (44 : Nat) ({ cls := "java/lang/Math", name := "abs", desc := "(I)I" } : Jvm.MethodName)) ∈ lw_all := lw_g (lw_at lw_m7 76 rfl) rfl
theorem q1931 : (Jvm.Cond.instanceMethod ({ cls := "OpenLines$Bus", name := "those", desc := "(I)Ljava/lang/Iterable;" } : Jvm.MethodName)) ∈ lw_all := lw_g (lw_at lw_m8 150 rfl) rfl
theorem q1932 : (Jvm.Cond.selects "OpenLines$Bus" ({ cls := "OpenLines$Bus", name := "those", desc := "(I)Ljava/lang/Iterable;" } : Jvm.MethodName) ({ cls := "OpenLines$Bus", name := "those", desc := "(I)Ljava/lang/Iterable;" } : Jvm.MethodName)) ∈ lw_all := lw_g (lw_at lw_m8 151 rfl) rfl
theorem q1933 : (Jvm.Cond.code ({ cls := "OpenLines$Bus", name := "those", desc := "(I)Ljava/lang/Iterable;" } : Jvm.MethodName) prog_5_method_7_code (2 : Nat) (Option.some (Jvm.ClassFile.FieldType.object "java/lang/Iterable"))) ∈ lw_all := lw_g (lw_at lw_m8 152 rfl) rfl
theorem q1934 : (Jvm.Cond.classLink "OpenLines$Bus" (57 : Nat) "OpenLines$Bus$1Those") ∈ lw_all := lw_g (lw_at lw_m8 153 rfl) rfl
theorem q1936 : (Jvm.Cond.methodLink "OpenLines$Bus" (59 : Nat) ({ cls := "OpenLines$Bus$1Those", name := "<init>", desc := "(LOpenLines$Bus;I)V" } : Jvm.MethodName)) ∈ lw_all := lw_g (lw_at lw_m8 155 rfl) rfl
theorem q2666 : (Jvm.Cond.castable "OpenLines$Bus" "java/lang/Object") ∈ lw_tbl := lw_at lw_m11 165 rfl
theorem in_X6 : ∀ w ∈ wsX60, w ∈ lw_all := lw_in wsX60 [488, 490, 492, 494, 496, 498] (by decide +kernel) (by decide +kernel)
/-! OpenLines$Fault -/
set_option maxRecDepth 100000
def RX7 : String := "OpenLines$Fault"
def TX7 : u_T := fun k => match k with
  | 0 => ("java/lang/Throwable", "cause", "Ljava/lang/Throwable;", false)
  | 1 => ("java/lang/Throwable", "stackTrace", "[Ljava/lang/StackTraceElement;", false)
  | 2 => ("java/lang/Throwable", "suppressedExceptions", "Ljava/util/List;", false)
  | 3 => ("java/lang/Throwable", "detailMessage", "Ljava/lang/String;", false)
  | 4 => ("java/lang/Throwable", "backtrace", "Ljava/lang/Object;", false)
  | 5 => ("java/lang/Throwable", "depth", "I", false)
  | 6 => ("OpenLines$Fault", "kind", "I", true)
  | _ => ("OpenLines$Fault", "place", "I", true)
def tyX7 : Nat → FieldType := fun k => match k with
  | 0 => .object "java/lang/Throwable"
  | 1 => .array (.object "java/lang/StackTraceElement")
  | 2 => .object "java/util/List"
  | 3 => .object "java/lang/String"
  | 4 => .object "java/lang/Object"
  | 5 => .int
  | 6 => .int
  | _ => .int
abbrev wsX70 : List Cond := u_ws RX7 TX7 8
theorem nmX7 : ∀ a, a < 8 → ∀ b, b < 8 → a ≠ b → (TX7 a).2.1 ≠ (TX7 b).2.1 := by decide +kernel
theorem tyX7_ok : ∀ k, k < 8 → parseFieldDescriptor (TX7 k).2.2.1 = some (tyX7 k) := by decide +kernel
abbrev cX7_init : ByteArray := prog_9_method_1_code
def yX7_init : MethodName := ⟨RX7, "<init>", "(II)V"⟩
def dkwX7_init_0 : List UInt8 := [42, 1, 1, 3, 3, 183, 0, 1, 42, 27, 181, 0, 7, 42, 28, 181, 0, 13, 177]
abbrev dktX7_init_0 : List UInt8 := dkwX7_init_0 ++ []
theorem dksX7_init_0 : cX7_init.data.toList.drop 0 = dktX7_init_0 := by decide +kernel
theorem dX7_init_0 : decode cX7_init 0 = .ok (.aload_n 0, 1) := dk_42 (dk_at dksX7_init_0 0 rfl rfl)
theorem dX7_init_1 : decode cX7_init 1 = .ok (.aconst_null, 1) := dk_1 (dk_at dksX7_init_0 1 rfl rfl)
theorem dX7_init_2 : decode cX7_init 2 = .ok (.aconst_null, 1) := dk_1 (dk_at dksX7_init_0 2 rfl rfl)
theorem dX7_init_3 : decode cX7_init 3 = .ok (.iconst 0, 1) := dk_3 (dk_at dksX7_init_0 3 rfl rfl)
theorem dX7_init_4 : decode cX7_init 4 = .ok (.iconst 0, 1) := dk_3 (dk_at dksX7_init_0 4 rfl rfl)
theorem dX7_init_5 : decode cX7_init 5 = .ok (.invokespecial 1, 3) := dk_183 0 1 (dk_at dksX7_init_0 5 rfl rfl)
theorem dX7_init_8 : decode cX7_init 8 = .ok (.aload_n 0, 1) := dk_42 (dk_at dksX7_init_0 8 rfl rfl)
theorem dX7_init_9 : decode cX7_init 9 = .ok (.iload_n 1, 1) := dk_27 (dk_at dksX7_init_0 9 rfl rfl)
theorem dX7_init_10 : decode cX7_init 10 = .ok (.putfield 7, 3) := dk_181 0 7 (dk_at dksX7_init_0 10 rfl rfl)
theorem dX7_init_13 : decode cX7_init 13 = .ok (.aload_n 0, 1) := dk_42 (dk_at dksX7_init_0 13 rfl rfl)
theorem dX7_init_14 : decode cX7_init 14 = .ok (.iload_n 2, 1) := dk_28 (dk_at dksX7_init_0 14 rfl rfl)
theorem dX7_init_15 : decode cX7_init 15 = .ok (.putfield 13, 3) := dk_181 0 13 (dk_at dksX7_init_0 15 rfl rfl)
theorem dX7_init_18 : decode cX7_init 18 = .ok (.return_, 1) := dk_177 (dk_at dksX7_init_0 18 rfl rfl)
theorem q120 : (Jvm.Cond.initialized "OpenLines$Fault") ∈ lw_all := lw_g (lw_at lw_m1 19 rfl) rfl
theorem q621 : (Jvm.Cond.instantiable "OpenLines$Fault" (8 : Nat)) ∈ lw_all := lw_g (lw_at lw_m3 40 rfl) rfl
theorem q622 : (Jvm.Cond.castable "OpenLines$Fault" "OpenLines$Fault") ∈ lw_tbl := lw_at lw_m3 41 rfl
theorem q627 : (Jvm.Cond.selects "OpenLines$Fault" ({ cls := "java/lang/Throwable", name := "fillInStackTrace", desc := "(I)Ljava/lang/Throwable;" } : Jvm.MethodName) ({ cls := "java/lang/Throwable", name := "fillInStackTrace", desc := "(I)Ljava/lang/Throwable;" } : Jvm.MethodName)) ∈ lw_all := lw_g (lw_at lw_m3 46 rfl) rfl
theorem q628 : (Jvm.Cond.selects "OpenLines$Fault" ({ cls := "java/lang/Throwable", name := "fillInStackTrace", desc := "()Ljava/lang/Throwable;" } : Jvm.MethodName) ({ cls := "java/lang/Throwable", name := "fillInStackTrace", desc := "()Ljava/lang/Throwable;" } : Jvm.MethodName)) ∈ lw_all := lw_g (lw_at lw_m3 47 rfl) rfl
theorem q629 : (Jvm.Cond.lays "OpenLines$Fault" "java/lang/Throwable" "cause" "Ljava/lang/Throwable;") ∈ lw_all := lw_g (lw_at lw_m3 48 rfl) rfl
theorem q631 : (Jvm.Cond.lays "OpenLines$Fault" "java/lang/Throwable" "stackTrace" "[Ljava/lang/StackTraceElement;") ∈ lw_all := lw_g (lw_at lw_m3 50 rfl) rfl
theorem q633 : (Jvm.Cond.lays "OpenLines$Fault" "java/lang/Throwable" "suppressedExceptions" "Ljava/util/List;") ∈ lw_all := lw_g (lw_at lw_m3 52 rfl) rfl
theorem q635 : (Jvm.Cond.lays "OpenLines$Fault" "java/lang/Throwable" "detailMessage" "Ljava/lang/String;") ∈ lw_all := lw_g (lw_at lw_m3 54 rfl) rfl
theorem q637 : (Jvm.Cond.lays "OpenLines$Fault" "java/lang/Throwable" "backtrace" "Ljava/lang/Object;") ∈ lw_all := lw_g (lw_at lw_m3 56 rfl) rfl
theorem q659 : (Jvm.Cond.instanceMethod ({ cls := "OpenLines$Fault", name := "<init>", desc := "(II)V" } : Jvm.MethodName)) ∈ lw_all := lw_g (lw_at lw_m3 78 rfl) rfl
theorem q660 : (Jvm.Cond.code ({ cls := "OpenLines$Fault", name := "<init>", desc := "(II)V" } : Jvm.MethodName) prog_9_method_1_code (3 : Nat) (Option.none : Option Jvm.ClassFile.FieldType)) ∈ lw_all := lw_g (lw_at lw_m3 79 rfl) rfl
theorem q661 : (Jvm.Cond.methodLink "OpenLines$Fault" (1 : Nat) ({ cls := "java/lang/Exception", name := "<init>", desc := "(Ljava/lang/String;Ljava/lang/Throwable;ZZ)V" } : Jvm.MethodName)) ∈ lw_all := lw_g (lw_at lw_m3 80 rfl) rfl
theorem q667 : (Jvm.Cond.fieldLink "OpenLines$Fault" (7 : Nat) "OpenLines$Fault" "kind" "I") ∈ lw_all := lw_g (lw_at lw_m3 86 rfl) rfl
theorem q669 : (Jvm.Cond.fieldLink "OpenLines$Fault" (13 : Nat) "OpenLines$Fault" "place" "I") ∈ lw_all := lw_g (lw_at lw_m3 88 rfl) rfl
theorem q676 : (Jvm.Cond.laysFinal "OpenLines$Fault" "OpenLines$Fault" "kind" "I") ∈ lw_all := lw_g (lw_at lw_m3 95 rfl) rfl
theorem q677 : (Jvm.Cond.soleField "OpenLines$Fault" "kind") ∈ lw_all := lw_g (lw_at lw_m3 96 rfl) rfl
theorem q678 : (Jvm.Cond.laysFinal "OpenLines$Fault" "OpenLines$Fault" "place" "I") ∈ lw_all := lw_g (lw_at lw_m3 97 rfl) rfl
theorem q679 : (Jvm.Cond.soleField "OpenLines$Fault" "place") ∈ lw_all := lw_g (lw_at lw_m3 98 rfl) rfl
theorem q684 : (Jvm.Cond.lays "OpenLines$Fault" "java/lang/Throwable" "depth" "I") ∈ lw_all := lw_g (lw_at lw_m3 103 rfl) rfl
theorem q687 : (Jvm.Cond.superclass "OpenLines$Fault" "java/lang/Exception") ∈ lw_all := lw_g (lw_at lw_m3 106 rfl) rfl
theorem q809 : (Jvm.Cond.selects "OpenLines$Fault" ({ cls := "java/lang/Object", name := "hashCode", desc := "()I" } : Jvm.MethodName) ({ cls := "java/lang/Object", name := "hashCode", desc := "()I" } : Jvm.MethodName)) ∈ lw_all := lw_g (lw_at lw_m3 228 rfl) rfl
theorem q887 : (Jvm.Cond.selects "OpenLines$Fault" ({ cls := "java/lang/Object", name := "equals", desc := "(Ljava/lang/Object;)Z" } : Jvm.MethodName) ({ cls := "java/lang/Object", name := "equals", desc := "(Ljava/lang/Object;)Z" } : Jvm.MethodName)) ∈ lw_all := lw_g (lw_at lw_m4 66 rfl) rfl
theorem q940 : (Jvm.Cond.selects "OpenLines$Fault" ({ cls := "java/lang/Object", name := "getClass", desc := "()Ljava/lang/Class;" } : Jvm.MethodName) ({ cls := "java/lang/Object", name := "getClass", desc := "()Ljava/lang/Class;" } : Jvm.MethodName)) ∈ lw_all := lw_g (lw_at lw_m4 119 rfl) rfl
theorem q2668 : (Jvm.Cond.castable "OpenLines$Fault" "java/lang/Object") ∈ lw_tbl := lw_at lw_m11 167 rfl
theorem in_X7 : ∀ w ∈ wsX70, w ∈ lw_all := lw_in wsX70 [629, 631, 633, 635, 637, 684, 676, 678] (by decide +kernel) (by decide +kernel)
/-! OpenLines$Told -/
set_option maxRecDepth 100000
def RX8 : String := "OpenLines$Told"
abbrev cX8_init : ByteArray := prog_16_method_1_code
def yX8_init : MethodName := ⟨RX8, "<init>", "(I)V"⟩
def dkwX8_init_0 : List UInt8 := [42, 183, 0, 1, 42, 27, 181, 0, 7, 177]
abbrev dktX8_init_0 : List UInt8 := dkwX8_init_0 ++ []
theorem dksX8_init_0 : cX8_init.data.toList.drop 0 = dktX8_init_0 := by decide +kernel
theorem dX8_init_0 : decode cX8_init 0 = .ok (.aload_n 0, 1) := dk_42 (dk_at dksX8_init_0 0 rfl rfl)
theorem dX8_init_1 : decode cX8_init 1 = .ok (.invokespecial 1, 3) := dk_183 0 1 (dk_at dksX8_init_0 1 rfl rfl)
theorem dX8_init_4 : decode cX8_init 4 = .ok (.aload_n 0, 1) := dk_42 (dk_at dksX8_init_0 4 rfl rfl)
theorem dX8_init_5 : decode cX8_init 5 = .ok (.iload_n 1, 1) := dk_27 (dk_at dksX8_init_0 5 rfl rfl)
theorem dX8_init_6 : decode cX8_init 6 = .ok (.putfield 7, 3) := dk_181 0 7 (dk_at dksX8_init_0 6 rfl rfl)
theorem dX8_init_9 : decode cX8_init 9 = .ok (.return_, 1) := dk_177 (dk_at dksX8_init_0 9 rfl rfl)
abbrev cX8_own : ByteArray := prog_16_method_2_code
def yX8_own : MethodName := ⟨RX8, "own", "()I"⟩
theorem dX8_own_0 : decode cX8_own 0 = .ok (.aload_n 0, 1) := by decide +kernel
theorem dX8_own_1 : decode cX8_own 1 = .ok (.getfield 7, 3) := by decide +kernel
theorem dX8_own_4 : decode cX8_own 4 = .ok (.ireturn, 1) := by decide +kernel
theorem q130 : (Jvm.Cond.initialized "OpenLines$Told") ∈ lw_all := lw_g (lw_at lw_m1 29 rfl) rfl
theorem q1134 : (Jvm.Cond.instanceMethod ({ cls := "OpenLines$Told", name := "<init>", desc := "(I)V" } : Jvm.MethodName)) ∈ lw_all := lw_g (lw_at lw_m5 73 rfl) rfl
theorem q1135 : (Jvm.Cond.code ({ cls := "OpenLines$Told", name := "<init>", desc := "(I)V" } : Jvm.MethodName) prog_16_method_1_code (2 : Nat) (Option.none : Option Jvm.ClassFile.FieldType)) ∈ lw_all := lw_g (lw_at lw_m5 74 rfl) rfl
theorem q1136 : (Jvm.Cond.methodLink "OpenLines$Told" (1 : Nat) ({ cls := "java/lang/Object", name := "<init>", desc := "()V" } : Jvm.MethodName)) ∈ lw_all := lw_g (lw_at lw_m5 75 rfl) rfl
theorem q1150 : (Jvm.Cond.fieldLink "OpenLines$Told" (7 : Nat) "OpenLines$Told" "rank" "I") ∈ lw_all := lw_g (lw_at lw_m5 89 rfl) rfl
theorem q1160 : (Jvm.Cond.soleField "OpenLines$Told" "rank") ∈ lw_all := lw_g (lw_at lw_m5 99 rfl) rfl
theorem q1464 : (Jvm.Cond.declares ({ cls := "OpenLines$Told", name := "own", desc := "()I" } : Jvm.MethodName)) ∈ lw_tbl := lw_at lw_m6 163 rfl
theorem q1466 : (Jvm.Cond.instanceMethod ({ cls := "OpenLines$Told", name := "own", desc := "()I" } : Jvm.MethodName)) ∈ lw_all := lw_g (lw_at lw_m6 165 rfl) rfl
theorem q1467 : (Jvm.Cond.code ({ cls := "OpenLines$Told", name := "own", desc := "()I" } : Jvm.MethodName) prog_16_method_2_code (1 : Nat) (Option.some Jvm.ClassFile.FieldType.int)) ∈ lw_all := lw_g (lw_at lw_m6 166 rfl) rfl
theorem q1472 : (Jvm.Cond.superclass "OpenLines$Told" "java/lang/Object") ∈ lw_all := lw_g (lw_at lw_m6 171 rfl) rfl
theorem q1483 : (Jvm.Cond.publicMethod ({ cls := "OpenLines$Told", name := "own", desc := "()I" } : Jvm.MethodName)) ∈ lw_tbl := lw_at lw_m6 182 rfl
/-! OpenLines$Board -/
set_option maxRecDepth 100000
def RX9 : String := "OpenLines$Board"
def TX9 : u_T := fun k => match k with
  | 0 => ("OpenLines$Told", "rank", "I", true)
  | 1 => ("OpenLines$Board", "name", "J", true)
  | 2 => ("OpenLines$Board", "number", "I", true)
  | 3 => ("OpenLines$Board", "slot", "I", true)
  | _ => ("OpenLines$Board", "code", "I", true)
def tyX9 : Nat → FieldType := fun k => match k with
  | 0 => .int
  | 1 => .long
  | 2 => .int
  | 3 => .int
  | _ => .int
abbrev wsX90 : List Cond := u_ws RX9 TX9 5
theorem nmX9 : ∀ a, a < 5 → ∀ b, b < 5 → a ≠ b → (TX9 a).2.1 ≠ (TX9 b).2.1 := by decide +kernel
theorem tyX9_ok : ∀ k, k < 5 → parseFieldDescriptor (TX9 k).2.2.1 = some (tyX9 k) := by decide +kernel
abbrev cX9_init : ByteArray := prog_4_method_1_code
def yX9_init : MethodName := ⟨RX9, "<init>", "(JIIII)V"⟩
def dkwX9_init_1 : List UInt8 := [21, 5, 181, 0, 20, 177]
abbrev dktX9_init_1 : List UInt8 := dkwX9_init_1 ++ []
def dkwX9_init_0 : List UInt8 := [42, 21, 6, 183, 0, 1, 42, 31, 181, 0, 7, 42, 29, 181, 0, 13, 42, 21, 4, 181, 0, 17, 42]
abbrev dktX9_init_0 : List UInt8 := dkwX9_init_0 ++ dktX9_init_1
theorem dksX9_init_0 : cX9_init.data.toList.drop 0 = dktX9_init_0 := by decide +kernel
theorem dksX9_init_1 : cX9_init.data.toList.drop 23 = dktX9_init_1 := dk_seg dksX9_init_0 23 rfl rfl
theorem dX9_init_0 : decode cX9_init 0 = .ok (.aload_n 0, 1) := dk_42 (dk_at dksX9_init_0 0 rfl rfl)
theorem dX9_init_1 : decode cX9_init 1 = .ok (.iload 6, 2) := dk_21 6 (dk_at dksX9_init_0 1 rfl rfl)
theorem dX9_init_3 : decode cX9_init 3 = .ok (.invokespecial 1, 3) := dk_183 0 1 (dk_at dksX9_init_0 3 rfl rfl)
theorem dX9_init_6 : decode cX9_init 6 = .ok (.aload_n 0, 1) := dk_42 (dk_at dksX9_init_0 6 rfl rfl)
theorem dX9_init_7 : decode cX9_init 7 = .ok (.lload_n 1, 1) := dk_31 (dk_at dksX9_init_0 7 rfl rfl)
theorem dX9_init_8 : decode cX9_init 8 = .ok (.putfield 7, 3) := dk_181 0 7 (dk_at dksX9_init_0 8 rfl rfl)
theorem dX9_init_11 : decode cX9_init 11 = .ok (.aload_n 0, 1) := dk_42 (dk_at dksX9_init_0 11 rfl rfl)
theorem dX9_init_12 : decode cX9_init 12 = .ok (.iload_n 3, 1) := dk_29 (dk_at dksX9_init_0 12 rfl rfl)
theorem dX9_init_13 : decode cX9_init 13 = .ok (.putfield 13, 3) := dk_181 0 13 (dk_at dksX9_init_0 13 rfl rfl)
theorem dX9_init_16 : decode cX9_init 16 = .ok (.aload_n 0, 1) := dk_42 (dk_at dksX9_init_0 16 rfl rfl)
theorem dX9_init_17 : decode cX9_init 17 = .ok (.iload 4, 2) := dk_21 4 (dk_at dksX9_init_0 17 rfl rfl)
theorem dX9_init_19 : decode cX9_init 19 = .ok (.putfield 17, 3) := dk_181 0 17 (dk_at dksX9_init_0 19 rfl rfl)
theorem dX9_init_22 : decode cX9_init 22 = .ok (.aload_n 0, 1) := dk_42 (dk_at dksX9_init_0 22 rfl rfl)
theorem dX9_init_23 : decode cX9_init 23 = .ok (.iload 5, 2) := dk_21 5 (dk_at dksX9_init_1 0 rfl rfl)
theorem dX9_init_25 : decode cX9_init 25 = .ok (.putfield 20, 3) := dk_181 0 20 (dk_at dksX9_init_1 2 rfl rfl)
theorem dX9_init_28 : decode cX9_init 28 = .ok (.return_, 1) := dk_177 (dk_at dksX9_init_1 5 rfl rfl)
abbrev cX9_ofTheDay : ByteArray := prog_4_method_2_code
def yX9_ofTheDay : MethodName := ⟨RX9, "ofTheDay", "(LOpenLines$Run;)I"⟩
def dkwX9_ofTheDay_2 : List UInt8 := [61, 132, 3, 1, 167, 255, 214, 28, 172]
abbrev dktX9_ofTheDay_2 : List UInt8 := dkwX9_ofTheDay_2 ++ []
def dkwX9_ofTheDay_1 : List UInt8 := [180, 0, 13, 182, 0, 39, 153, 0, 19, 28, 43, 180, 0, 27, 29, 182, 0, 43, 182, 0, 47, 184, 0, 50]
abbrev dktX9_ofTheDay_1 : List UInt8 := dkwX9_ofTheDay_1 ++ dktX9_ofTheDay_2
def dkwX9_ofTheDay_0 : List UInt8 := [42, 43, 183, 0, 23, 61, 3, 62, 29, 43, 180, 0, 27, 182, 0, 33, 162, 0, 37, 43, 29, 42]
abbrev dktX9_ofTheDay_0 : List UInt8 := dkwX9_ofTheDay_0 ++ dktX9_ofTheDay_1
theorem dksX9_ofTheDay_0 : cX9_ofTheDay.data.toList.drop 0 = dktX9_ofTheDay_0 := by decide +kernel
theorem dksX9_ofTheDay_1 : cX9_ofTheDay.data.toList.drop 22 = dktX9_ofTheDay_1 := dk_seg dksX9_ofTheDay_0 22 rfl rfl
theorem dksX9_ofTheDay_2 : cX9_ofTheDay.data.toList.drop 46 = dktX9_ofTheDay_2 := dk_seg dksX9_ofTheDay_1 24 rfl rfl
theorem dX9_ofTheDay_0 : decode cX9_ofTheDay 0 = .ok (.aload_n 0, 1) := dk_42 (dk_at dksX9_ofTheDay_0 0 rfl rfl)
theorem dX9_ofTheDay_1 : decode cX9_ofTheDay 1 = .ok (.aload_n 1, 1) := dk_43 (dk_at dksX9_ofTheDay_0 1 rfl rfl)
theorem dX9_ofTheDay_2 : decode cX9_ofTheDay 2 = .ok (.invokespecial 23, 3) := dk_183 0 23 (dk_at dksX9_ofTheDay_0 2 rfl rfl)
theorem dX9_ofTheDay_5 : decode cX9_ofTheDay 5 = .ok (.istore_n 2, 1) := dk_61 (dk_at dksX9_ofTheDay_0 5 rfl rfl)
theorem dX9_ofTheDay_6 : decode cX9_ofTheDay 6 = .ok (.iconst 0, 1) := dk_3 (dk_at dksX9_ofTheDay_0 6 rfl rfl)
theorem dX9_ofTheDay_7 : decode cX9_ofTheDay 7 = .ok (.istore_n 3, 1) := dk_62 (dk_at dksX9_ofTheDay_0 7 rfl rfl)
theorem dX9_ofTheDay_8 : decode cX9_ofTheDay 8 = .ok (.iload_n 3, 1) := dk_29 (dk_at dksX9_ofTheDay_0 8 rfl rfl)
theorem dX9_ofTheDay_9 : decode cX9_ofTheDay 9 = .ok (.aload_n 1, 1) := dk_43 (dk_at dksX9_ofTheDay_0 9 rfl rfl)
theorem dX9_ofTheDay_10 : decode cX9_ofTheDay 10 = .ok (.getfield 27, 3) := dk_180 0 27 (dk_at dksX9_ofTheDay_0 10 rfl rfl)
theorem dX9_ofTheDay_13 : decode cX9_ofTheDay 13 = .ok (.invokevirtual 33, 3) := dk_182 0 33 (dk_at dksX9_ofTheDay_0 13 rfl rfl)
theorem dX9_ofTheDay_16 : decode cX9_ofTheDay 16 = .ok (.if_icmp .ge 37, 3) := dk_162 0 37 (dk_at dksX9_ofTheDay_0 16 rfl rfl)
theorem dX9_ofTheDay_19 : decode cX9_ofTheDay 19 = .ok (.aload_n 1, 1) := dk_43 (dk_at dksX9_ofTheDay_0 19 rfl rfl)
theorem dX9_ofTheDay_20 : decode cX9_ofTheDay 20 = .ok (.iload_n 3, 1) := dk_29 (dk_at dksX9_ofTheDay_0 20 rfl rfl)
theorem dX9_ofTheDay_21 : decode cX9_ofTheDay 21 = .ok (.aload_n 0, 1) := dk_42 (dk_at dksX9_ofTheDay_0 21 rfl rfl)
theorem dX9_ofTheDay_22 : decode cX9_ofTheDay 22 = .ok (.getfield 13, 3) := dk_180 0 13 (dk_at dksX9_ofTheDay_1 0 rfl rfl)
theorem dX9_ofTheDay_25 : decode cX9_ofTheDay 25 = .ok (.invokevirtual 39, 3) := dk_182 0 39 (dk_at dksX9_ofTheDay_1 3 rfl rfl)
theorem dX9_ofTheDay_28 : decode cX9_ofTheDay 28 = .ok (.ifCond .eq 19, 3) := dk_153 0 19 (dk_at dksX9_ofTheDay_1 6 rfl rfl)
theorem dX9_ofTheDay_31 : decode cX9_ofTheDay 31 = .ok (.iload_n 2, 1) := dk_28 (dk_at dksX9_ofTheDay_1 9 rfl rfl)
theorem dX9_ofTheDay_32 : decode cX9_ofTheDay 32 = .ok (.aload_n 1, 1) := dk_43 (dk_at dksX9_ofTheDay_1 10 rfl rfl)
theorem dX9_ofTheDay_33 : decode cX9_ofTheDay 33 = .ok (.getfield 27, 3) := dk_180 0 27 (dk_at dksX9_ofTheDay_1 11 rfl rfl)
theorem dX9_ofTheDay_36 : decode cX9_ofTheDay 36 = .ok (.iload_n 3, 1) := dk_29 (dk_at dksX9_ofTheDay_1 14 rfl rfl)
theorem dX9_ofTheDay_37 : decode cX9_ofTheDay 37 = .ok (.invokevirtual 43, 3) := dk_182 0 43 (dk_at dksX9_ofTheDay_1 15 rfl rfl)
theorem dX9_ofTheDay_40 : decode cX9_ofTheDay 40 = .ok (.invokevirtual 47, 3) := dk_182 0 47 (dk_at dksX9_ofTheDay_1 18 rfl rfl)
theorem dX9_ofTheDay_43 : decode cX9_ofTheDay 43 = .ok (.invokestatic 50, 3) := dk_184 0 50 (dk_at dksX9_ofTheDay_1 21 rfl rfl)
theorem dX9_ofTheDay_46 : decode cX9_ofTheDay 46 = .ok (.istore_n 2, 1) := dk_61 (dk_at dksX9_ofTheDay_2 0 rfl rfl)
theorem dX9_ofTheDay_47 : decode cX9_ofTheDay 47 = .ok (.iinc 3 1, 3) := dk_132 3 1 (dk_at dksX9_ofTheDay_2 1 rfl rfl)
theorem dX9_ofTheDay_50 : decode cX9_ofTheDay 50 = .ok (.goto (-42), 3) := dk_167 255 214 (dk_at dksX9_ofTheDay_2 4 rfl rfl)
theorem dX9_ofTheDay_53 : decode cX9_ofTheDay 53 = .ok (.iload_n 2, 1) := dk_28 (dk_at dksX9_ofTheDay_2 7 rfl rfl)
theorem dX9_ofTheDay_54 : decode cX9_ofTheDay 54 = .ok (.ireturn, 1) := dk_172 (dk_at dksX9_ofTheDay_2 8 rfl rfl)
theorem q131 : (Jvm.Cond.initialized "OpenLines$Board") ∈ lw_all := lw_g (lw_at lw_m1 30 rfl) rfl
theorem q255 : (Jvm.Cond.fieldLinkNest "OpenLines$Board" (27 : Nat) "OpenLines$Run" "bus" "LOpenLines$Bus;" "OpenLines") ∈ lw_tbl := lw_at lw_m1 154 rfl
theorem q802 : (Jvm.Cond.selects "OpenLines$Board" ({ cls := "java/lang/Object", name := "hashCode", desc := "()I" } : Jvm.MethodName) ({ cls := "java/lang/Object", name := "hashCode", desc := "()I" } : Jvm.MethodName)) ∈ lw_all := lw_g (lw_at lw_m3 221 rfl) rfl
theorem q880 : (Jvm.Cond.selects "OpenLines$Board" ({ cls := "java/lang/Object", name := "equals", desc := "(Ljava/lang/Object;)Z" } : Jvm.MethodName) ({ cls := "java/lang/Object", name := "equals", desc := "(Ljava/lang/Object;)Z" } : Jvm.MethodName)) ∈ lw_all := lw_g (lw_at lw_m4 59 rfl) rfl
theorem q935 : (Jvm.Cond.selects "OpenLines$Board" ({ cls := "java/lang/Object", name := "getClass", desc := "()Ljava/lang/Class;" } : Jvm.MethodName) ({ cls := "java/lang/Object", name := "getClass", desc := "()Ljava/lang/Class;" } : Jvm.MethodName)) ∈ lw_all := lw_g (lw_at lw_m4 114 rfl) rfl
theorem q1128 : (Jvm.Cond.instantiable "OpenLines$Board" (5 : Nat)) ∈ lw_all := lw_g (lw_at lw_m5 67 rfl) rfl
theorem q1131 : (Jvm.Cond.instanceMethod ({ cls := "OpenLines$Board", name := "<init>", desc := "(JIIII)V" } : Jvm.MethodName)) ∈ lw_all := lw_g (lw_at lw_m5 70 rfl) rfl
theorem q1132 : (Jvm.Cond.code ({ cls := "OpenLines$Board", name := "<init>", desc := "(JIIII)V" } : Jvm.MethodName) prog_4_method_1_code (7 : Nat) (Option.none : Option Jvm.ClassFile.FieldType)) ∈ lw_all := lw_g (lw_at lw_m5 71 rfl) rfl
theorem q1133 : (Jvm.Cond.methodLink "OpenLines$Board" (1 : Nat) ({ cls := "OpenLines$Told", name := "<init>", desc := "(I)V" } : Jvm.MethodName)) ∈ lw_all := lw_g (lw_at lw_m5 72 rfl) rfl
theorem q1137 : (Jvm.Cond.fieldLink "OpenLines$Board" (7 : Nat) "OpenLines$Board" "name" "J") ∈ lw_all := lw_g (lw_at lw_m5 76 rfl) rfl
theorem q1139 : (Jvm.Cond.fieldLink "OpenLines$Board" (13 : Nat) "OpenLines$Board" "number" "I") ∈ lw_all := lw_g (lw_at lw_m5 78 rfl) rfl
theorem q1144 : (Jvm.Cond.fieldLink "OpenLines$Board" (17 : Nat) "OpenLines$Board" "slot" "I") ∈ lw_all := lw_g (lw_at lw_m5 83 rfl) rfl
theorem q1148 : (Jvm.Cond.fieldLink "OpenLines$Board" (20 : Nat) "OpenLines$Board" "code" "I") ∈ lw_all := lw_g (lw_at lw_m5 87 rfl) rfl
theorem q1151 : (Jvm.Cond.laysFinal "OpenLines$Board" "OpenLines$Board" "name" "J") ∈ lw_all := lw_g (lw_at lw_m5 90 rfl) rfl
theorem q1152 : (Jvm.Cond.soleField "OpenLines$Board" "name") ∈ lw_all := lw_g (lw_at lw_m5 91 rfl) rfl
theorem q1153 : (Jvm.Cond.laysFinal "OpenLines$Board" "OpenLines$Board" "number" "I") ∈ lw_all := lw_g (lw_at lw_m5 92 rfl) rfl
theorem q1154 : (Jvm.Cond.soleField "OpenLines$Board" "number") ∈ lw_all := lw_g (lw_at lw_m5 93 rfl) rfl
theorem q1155 : (Jvm.Cond.laysFinal "OpenLines$Board" "OpenLines$Board" "slot" "I") ∈ lw_all := lw_g (lw_at lw_m5 94 rfl) rfl
theorem q1156 : (Jvm.Cond.soleField "OpenLines$Board" "slot") ∈ lw_all := lw_g (lw_at lw_m5 95 rfl) rfl
theorem q1157 : (Jvm.Cond.laysFinal "OpenLines$Board" "OpenLines$Board" "code" "I") ∈ lw_all := lw_g (lw_at lw_m5 96 rfl) rfl
theorem q1158 : (Jvm.Cond.soleField "OpenLines$Board" "code") ∈ lw_all := lw_g (lw_at lw_m5 97 rfl) rfl
theorem q1159 : (Jvm.Cond.laysFinal "OpenLines$Board" "OpenLines$Told" "rank" "I") ∈ lw_all := lw_g (lw_at lw_m5 98 rfl) rfl
theorem q1161 : (Jvm.Cond.superclass "OpenLines$Board" "OpenLines$Told") ∈ lw_all := lw_g (lw_at lw_m5 100 rfl) rfl
theorem q1463 : (Jvm.Cond.sameMethod "OpenLines$Board" "OpenLines$Told" "own" "()I") ∈ lw_all := lw_g (lw_at lw_m6 162 rfl) rfl
theorem q1465 : (Jvm.Cond.selects "OpenLines$Board" ({ cls := "OpenLines$Board", name := "own", desc := "()I" } : Jvm.MethodName) ({ cls := "OpenLines$Told", name := "own", desc := "()I" } : Jvm.MethodName)) ∈ lw_all := lw_g (lw_at lw_m6 164 rfl) rfl
theorem q1469 : (Jvm.Cond.instanceMethod ({ cls := "OpenLines$Board", name := "ofTheDay", desc := "(LOpenLines$Run;)I" } : Jvm.MethodName)) ∈ lw_all := lw_g (lw_at lw_m6 168 rfl) rfl
theorem q1470 : (Jvm.Cond.selects "OpenLines$Board" ({ cls := "OpenLines$Board", name := "ofTheDay", desc := "(LOpenLines$Run;)I" } : Jvm.MethodName) ({ cls := "OpenLines$Board", name := "ofTheDay", desc := "(LOpenLines$Run;)I" } : Jvm.MethodName)) ∈ lw_all := lw_g (lw_at lw_m6 169 rfl) rfl
theorem q1471 : (Jvm.Cond.code ({ cls := "OpenLines$Board", name := "ofTheDay", desc := "(LOpenLines$Run;)I" } : Jvm.MethodName) prog_4_method_2_code (4 : Nat) (Option.some Jvm.ClassFile.FieldType.int)) ∈ lw_all := lw_g (lw_at lw_m6 170 rfl) rfl
theorem q1480 : (Jvm.Cond.castable "OpenLines$Board" "OpenLines$Ranked") ∈ lw_tbl := lw_at lw_m6 179 rfl
theorem q1481 : (Jvm.Cond.selects "OpenLines$Board" ({ cls := "OpenLines$Ranked", name := "own", desc := "()I" } : Jvm.MethodName) ({ cls := "OpenLines$Told", name := "own", desc := "()I" } : Jvm.MethodName)) ∈ lw_all := lw_g (lw_at lw_m6 180 rfl) rfl
theorem q1482 : (Jvm.Cond.unhidden "OpenLines$Board" "own" "()I") ∈ lw_tbl := lw_at lw_m6 181 rfl
theorem q1484 : (Jvm.Cond.methodLink "OpenLines$Board" (33 : Nat) ({ cls := "OpenLines$Bus", name := "many", desc := "()I" } : Jvm.MethodName)) ∈ lw_all := lw_g (lw_at lw_m6 183 rfl) rfl
theorem q1485 : (Jvm.Cond.methodLink "OpenLines$Board" (39 : Nat) ({ cls := "OpenLines$Run", name := "waitsFor", desc := "(II)Z" } : Jvm.MethodName)) ∈ lw_all := lw_g (lw_at lw_m6 184 rfl) rfl
theorem q1489 : (Jvm.Cond.methodLink "OpenLines$Board" (43 : Nat) ({ cls := "OpenLines$Bus", name := "board", desc := "(I)LOpenLines$Board;" } : Jvm.MethodName)) ∈ lw_all := lw_g (lw_at lw_m6 188 rfl) rfl
theorem q1490 : (Jvm.Cond.methodLink "OpenLines$Board" (47 : Nat) ({ cls := "OpenLines$Board", name := "own", desc := "()I" } : Jvm.MethodName)) ∈ lw_all := lw_g (lw_at lw_m6 189 rfl) rfl
theorem q1491 : (Jvm.Cond.methodLink "OpenLines$Board" (50 : Nat) ({ cls := "java/lang/Math", name := "max", desc := "(II)I" } : Jvm.MethodName)) ∈ lw_all := lw_g (lw_at lw_m6 190 rfl) rfl
theorem q2672 : (Jvm.Cond.castable "OpenLines$Board" "java/lang/Object") ∈ lw_tbl := lw_at lw_m11 171 rfl
theorem in_X9 : ∀ w ∈ wsX90, w ∈ lw_all := lw_in wsX90 [1159, 1151, 1153, 1155, 1157] (by decide +kernel) (by decide +kernel)
/-! OpenLines$Ask -/
set_option maxRecDepth 100000
def RX10 : String := "OpenLines$Ask"
def TX10 : u_T := fun k => match k with
  | 0 => ("OpenLines$Ask", "time", "I", true)
  | 1 => ("OpenLines$Ask", "board", "I", true)
  | _ => ("OpenLines$Ask", "ticks", "I", true)
def tyX10 : Nat → FieldType := fun k => match k with
  | 0 => .int
  | 1 => .int
  | _ => .int
abbrev wsX100 : List Cond := u_ws RX10 TX10 3
theorem nmX10 : ∀ a, a < 3 → ∀ b, b < 3 → a ≠ b → (TX10 a).2.1 ≠ (TX10 b).2.1 := by decide +kernel
theorem tyX10_ok : ∀ k, k < 3 → parseFieldDescriptor (TX10 k).2.2.1 = some (tyX10 k) := by decide +kernel
abbrev cX10_hashCode : ByteArray := prog_3_method_3_code
def yX10_hashCode : MethodName := ⟨RX10, "hashCode", "()I"⟩
theorem dX10_hashCode_0 : decode cX10_hashCode 0 = .ok (.aload_n 0, 1) := by decide +kernel
theorem dX10_hashCode_1 : decode cX10_hashCode 1 = .ok (.invokedynamic 23, 5) := by decide +kernel
theorem dX10_hashCode_6 : decode cX10_hashCode 6 = .ok (.ireturn, 1) := by decide +kernel
abbrev cX10_equals : ByteArray := prog_3_method_4_code
def yX10_equals : MethodName := ⟨RX10, "equals", "(Ljava/lang/Object;)Z"⟩
def dkwX10_equals_0 : List UInt8 := [42, 43, 186, 0, 27, 0, 0, 172]
abbrev dktX10_equals_0 : List UInt8 := dkwX10_equals_0 ++ []
theorem dksX10_equals_0 : cX10_equals.data.toList.drop 0 = dktX10_equals_0 := by decide +kernel
theorem dX10_equals_0 : decode cX10_equals 0 = .ok (.aload_n 0, 1) := dk_42 (dk_at dksX10_equals_0 0 rfl rfl)
theorem dX10_equals_1 : decode cX10_equals 1 = .ok (.aload_n 1, 1) := dk_43 (dk_at dksX10_equals_0 1 rfl rfl)
theorem dX10_equals_2 : decode cX10_equals 2 = .ok (.invokedynamic 27, 5) := by decide +kernel
theorem dX10_equals_7 : decode cX10_equals 7 = .ok (.ireturn, 1) := dk_172 (dk_at dksX10_equals_0 7 rfl rfl)
abbrev cX10_time : ByteArray := prog_3_method_5_code
def yX10_time : MethodName := ⟨RX10, "time", "()I"⟩
theorem dX10_time_0 : decode cX10_time 0 = .ok (.aload_n 0, 1) := by decide +kernel
theorem dX10_time_1 : decode cX10_time 1 = .ok (.getfield 7, 3) := by decide +kernel
theorem dX10_time_4 : decode cX10_time 4 = .ok (.ireturn, 1) := by decide +kernel
abbrev cX10_init : ByteArray := prog_3_method_1_code
def yX10_init : MethodName := ⟨RX10, "<init>", "(III)V"⟩
def dkwX10_init_0 : List UInt8 := [42, 183, 0, 1, 42, 27, 181, 0, 7, 42, 28, 181, 0, 13, 42, 29, 181, 0, 16, 177]
abbrev dktX10_init_0 : List UInt8 := dkwX10_init_0 ++ []
theorem dksX10_init_0 : cX10_init.data.toList.drop 0 = dktX10_init_0 := by decide +kernel
theorem dX10_init_0 : decode cX10_init 0 = .ok (.aload_n 0, 1) := dk_42 (dk_at dksX10_init_0 0 rfl rfl)
theorem dX10_init_1 : decode cX10_init 1 = .ok (.invokespecial 1, 3) := dk_183 0 1 (dk_at dksX10_init_0 1 rfl rfl)
theorem dX10_init_4 : decode cX10_init 4 = .ok (.aload_n 0, 1) := dk_42 (dk_at dksX10_init_0 4 rfl rfl)
theorem dX10_init_5 : decode cX10_init 5 = .ok (.iload_n 1, 1) := dk_27 (dk_at dksX10_init_0 5 rfl rfl)
theorem dX10_init_6 : decode cX10_init 6 = .ok (.putfield 7, 3) := dk_181 0 7 (dk_at dksX10_init_0 6 rfl rfl)
theorem dX10_init_9 : decode cX10_init 9 = .ok (.aload_n 0, 1) := dk_42 (dk_at dksX10_init_0 9 rfl rfl)
theorem dX10_init_10 : decode cX10_init 10 = .ok (.iload_n 2, 1) := dk_28 (dk_at dksX10_init_0 10 rfl rfl)
theorem dX10_init_11 : decode cX10_init 11 = .ok (.putfield 13, 3) := dk_181 0 13 (dk_at dksX10_init_0 11 rfl rfl)
theorem dX10_init_14 : decode cX10_init 14 = .ok (.aload_n 0, 1) := dk_42 (dk_at dksX10_init_0 14 rfl rfl)
theorem dX10_init_15 : decode cX10_init 15 = .ok (.iload_n 3, 1) := dk_29 (dk_at dksX10_init_0 15 rfl rfl)
theorem dX10_init_16 : decode cX10_init 16 = .ok (.putfield 16, 3) := dk_181 0 16 (dk_at dksX10_init_0 16 rfl rfl)
theorem dX10_init_19 : decode cX10_init 19 = .ok (.return_, 1) := dk_177 (dk_at dksX10_init_0 19 rfl rfl)
abbrev cX10_board : ByteArray := prog_3_method_6_code
def yX10_board : MethodName := ⟨RX10, "board", "()I"⟩
theorem dX10_board_0 : decode cX10_board 0 = .ok (.aload_n 0, 1) := by decide +kernel
theorem dX10_board_1 : decode cX10_board 1 = .ok (.getfield 13, 3) := by decide +kernel
theorem dX10_board_4 : decode cX10_board 4 = .ok (.ireturn, 1) := by decide +kernel
abbrev cX10_ticks : ByteArray := prog_3_method_7_code
def yX10_ticks : MethodName := ⟨RX10, "ticks", "()I"⟩
theorem dX10_ticks_0 : decode cX10_ticks 0 = .ok (.aload_n 0, 1) := by decide +kernel
theorem dX10_ticks_1 : decode cX10_ticks 1 = .ok (.getfield 16, 3) := by decide +kernel
theorem dX10_ticks_4 : decode cX10_ticks 4 = .ok (.ireturn, 1) := by decide +kernel
theorem q138 : (Jvm.Cond.initialized "OpenLines$Ask") ∈ lw_all := lw_g (lw_at lw_m1 37 rfl) rfl
theorem q797 : (Jvm.Cond.selects "OpenLines$Ask" ({ cls := "java/lang/Object", name := "hashCode", desc := "()I" } : Jvm.MethodName) ({ cls := "OpenLines$Ask", name := "hashCode", desc := "()I" } : Jvm.MethodName)) ∈ lw_all := lw_g (lw_at lw_m3 216 rfl) rfl
theorem q798 : (Jvm.Cond.instanceMethod ({ cls := "OpenLines$Ask", name := "hashCode", desc := "()I" } : Jvm.MethodName)) ∈ lw_all := lw_g (lw_at lw_m3 217 rfl) rfl
theorem q799 : (Jvm.Cond.code ({ cls := "OpenLines$Ask", name := "hashCode", desc := "()I" } : Jvm.MethodName) prog_3_method_3_code (1 : Nat) (Option.some Jvm.ClassFile.FieldType.int)) ∈ lw_all := lw_g (lw_at lw_m3 218 rfl) rfl
theorem q877 : (Jvm.Cond.selects "OpenLines$Ask" ({ cls := "java/lang/Object", name := "equals", desc := "(Ljava/lang/Object;)Z" } : Jvm.MethodName) ({ cls := "OpenLines$Ask", name := "equals", desc := "(Ljava/lang/Object;)Z" } : Jvm.MethodName)) ∈ lw_all := lw_g (lw_at lw_m4 56 rfl) rfl
theorem q878 : (Jvm.Cond.instanceMethod ({ cls := "OpenLines$Ask", name := "equals", desc := "(Ljava/lang/Object;)Z" } : Jvm.MethodName)) ∈ lw_all := lw_g (lw_at lw_m4 57 rfl) rfl
theorem q879 : (Jvm.Cond.code ({ cls := "OpenLines$Ask", name := "equals", desc := "(Ljava/lang/Object;)Z" } : Jvm.MethodName) prog_3_method_4_code (2 : Nat) (Option.some Jvm.ClassFile.FieldType.boolean)) ∈ lw_all := lw_g (lw_at lw_m4 58 rfl) rfl
theorem q934 : (Jvm.Cond.selects "OpenLines$Ask" ({ cls := "java/lang/Object", name := "getClass", desc := "()Ljava/lang/Class;" } : Jvm.MethodName) ({ cls := "java/lang/Object", name := "getClass", desc := "()Ljava/lang/Class;" } : Jvm.MethodName)) ∈ lw_all := lw_g (lw_at lw_m4 113 rfl) rfl
theorem q1402 : (Jvm.Cond.instanceMethod ({ cls := "OpenLines$Ask", name := "time", desc := "()I" } : Jvm.MethodName)) ∈ lw_all := lw_g (lw_at lw_m6 101 rfl) rfl
theorem q1403 : (Jvm.Cond.selects "OpenLines$Ask" ({ cls := "OpenLines$Ask", name := "time", desc := "()I" } : Jvm.MethodName) ({ cls := "OpenLines$Ask", name := "time", desc := "()I" } : Jvm.MethodName)) ∈ lw_all := lw_g (lw_at lw_m6 102 rfl) rfl
theorem q1404 : (Jvm.Cond.code ({ cls := "OpenLines$Ask", name := "time", desc := "()I" } : Jvm.MethodName) prog_3_method_5_code (1 : Nat) (Option.some Jvm.ClassFile.FieldType.int)) ∈ lw_all := lw_g (lw_at lw_m6 103 rfl) rfl
theorem q1405 : (Jvm.Cond.instantiable "OpenLines$Ask" (3 : Nat)) ∈ lw_all := lw_g (lw_at lw_m6 104 rfl) rfl
theorem q1407 : (Jvm.Cond.instanceMethod ({ cls := "OpenLines$Ask", name := "<init>", desc := "(III)V" } : Jvm.MethodName)) ∈ lw_all := lw_g (lw_at lw_m6 106 rfl) rfl
theorem q1408 : (Jvm.Cond.code ({ cls := "OpenLines$Ask", name := "<init>", desc := "(III)V" } : Jvm.MethodName) prog_3_method_1_code (4 : Nat) (Option.none : Option Jvm.ClassFile.FieldType)) ∈ lw_all := lw_g (lw_at lw_m6 107 rfl) rfl
theorem q1409 : (Jvm.Cond.methodLink "OpenLines$Ask" (1 : Nat) ({ cls := "java/lang/Record", name := "<init>", desc := "()V" } : Jvm.MethodName)) ∈ lw_all := lw_g (lw_at lw_m6 108 rfl) rfl
theorem q1413 : (Jvm.Cond.fieldLink "OpenLines$Ask" (7 : Nat) "OpenLines$Ask" "time" "I") ∈ lw_all := lw_g (lw_at lw_m6 112 rfl) rfl
theorem q1414 : (Jvm.Cond.fieldLink "OpenLines$Ask" (13 : Nat) "OpenLines$Ask" "board" "I") ∈ lw_all := lw_g (lw_at lw_m6 113 rfl) rfl
theorem q1415 : (Jvm.Cond.fieldLink "OpenLines$Ask" (16 : Nat) "OpenLines$Ask" "ticks" "I") ∈ lw_all := lw_g (lw_at lw_m6 114 rfl) rfl
theorem q1416 : (Jvm.Cond.laysFinal "OpenLines$Ask" "OpenLines$Ask" "time" "I") ∈ lw_all := lw_g (lw_at lw_m6 115 rfl) rfl
theorem q1417 : (Jvm.Cond.soleField "OpenLines$Ask" "time") ∈ lw_all := lw_g (lw_at lw_m6 116 rfl) rfl
theorem q1418 : (Jvm.Cond.laysFinal "OpenLines$Ask" "OpenLines$Ask" "board" "I") ∈ lw_all := lw_g (lw_at lw_m6 117 rfl) rfl
theorem q1419 : (Jvm.Cond.soleField "OpenLines$Ask" "board") ∈ lw_all := lw_g (lw_at lw_m6 118 rfl) rfl
theorem q1420 : (Jvm.Cond.laysFinal "OpenLines$Ask" "OpenLines$Ask" "ticks" "I") ∈ lw_all := lw_g (lw_at lw_m6 119 rfl) rfl
theorem q1421 : (Jvm.Cond.soleField "OpenLines$Ask" "ticks") ∈ lw_all := lw_g (lw_at lw_m6 120 rfl) rfl
theorem q1422 : (Jvm.Cond.superclass "OpenLines$Ask" "java/lang/Record") ∈ lw_all := lw_g (lw_at lw_m6 121 rfl) rfl
theorem q1849 : (Jvm.Cond.instanceMethod ({ cls := "OpenLines$Ask", name := "board", desc := "()I" } : Jvm.MethodName)) ∈ lw_all := lw_g (lw_at lw_m8 68 rfl) rfl
theorem q1850 : (Jvm.Cond.selects "OpenLines$Ask" ({ cls := "OpenLines$Ask", name := "board", desc := "()I" } : Jvm.MethodName) ({ cls := "OpenLines$Ask", name := "board", desc := "()I" } : Jvm.MethodName)) ∈ lw_all := lw_g (lw_at lw_m8 69 rfl) rfl
theorem q1851 : (Jvm.Cond.code ({ cls := "OpenLines$Ask", name := "board", desc := "()I" } : Jvm.MethodName) prog_3_method_6_code (1 : Nat) (Option.some Jvm.ClassFile.FieldType.int)) ∈ lw_all := lw_g (lw_at lw_m8 70 rfl) rfl
theorem q1853 : (Jvm.Cond.instanceMethod ({ cls := "OpenLines$Ask", name := "ticks", desc := "()I" } : Jvm.MethodName)) ∈ lw_all := lw_g (lw_at lw_m8 72 rfl) rfl
theorem q1854 : (Jvm.Cond.selects "OpenLines$Ask" ({ cls := "OpenLines$Ask", name := "ticks", desc := "()I" } : Jvm.MethodName) ({ cls := "OpenLines$Ask", name := "ticks", desc := "()I" } : Jvm.MethodName)) ∈ lw_all := lw_g (lw_at lw_m8 73 rfl) rfl
theorem q1855 : (Jvm.Cond.code ({ cls := "OpenLines$Ask", name := "ticks", desc := "()I" } : Jvm.MethodName) prog_3_method_7_code (1 : Nat) (Option.some Jvm.ClassFile.FieldType.int)) ∈ lw_all := lw_g (lw_at lw_m8 74 rfl) rfl
theorem q2675 : (Jvm.Cond.castable "OpenLines$Ask" "java/lang/Object") ∈ lw_tbl := lw_at lw_m11 174 rfl
theorem in_X10 : ∀ w ∈ wsX100, w ∈ lw_all := lw_in wsX100 [1416, 1418, 1420] (by decide +kernel) (by decide +kernel)
/-! OpenLines$1 -/
set_option maxRecDepth 100000
def RX11 : String := "OpenLines$1"
def TX11 : u_T := fun k => match k with
  | 0 => ("OpenLines$1", "val$which", "I", true)
  | _ => ("OpenLines$1", "this$0", "LOpenLines;", true)
def tyX11 : Nat → FieldType := fun k => match k with
  | 0 => .int
  | _ => .object "OpenLines"
abbrev wsX110 : List Cond := u_ws RX11 TX11 2
theorem nmX11 : ∀ a, a < 2 → ∀ b, b < 2 → a ≠ b → (TX11 a).2.1 ≠ (TX11 b).2.1 := by decide +kernel
theorem tyX11_ok : ∀ k, k < 2 → parseFieldDescriptor (TX11 k).2.2.1 = some (tyX11 k) := by decide +kernel
abbrev cX11_init : ByteArray := prog_2_method_1_code
def yX11_init : MethodName := ⟨RX11, "<init>", "(LOpenLines;I)V"⟩
def dkwX11_init_0 : List UInt8 := [42, 43, 181, 0, 1, 42, 28, 181, 0, 7, 42, 183, 0, 11, 177]
abbrev dktX11_init_0 : List UInt8 := dkwX11_init_0 ++ []
theorem dksX11_init_0 : cX11_init.data.toList.drop 0 = dktX11_init_0 := by decide +kernel
theorem dX11_init_0 : decode cX11_init 0 = .ok (.aload_n 0, 1) := dk_42 (dk_at dksX11_init_0 0 rfl rfl)
theorem dX11_init_1 : decode cX11_init 1 = .ok (.aload_n 1, 1) := dk_43 (dk_at dksX11_init_0 1 rfl rfl)
theorem dX11_init_2 : decode cX11_init 2 = .ok (.putfield 1, 3) := dk_181 0 1 (dk_at dksX11_init_0 2 rfl rfl)
theorem dX11_init_5 : decode cX11_init 5 = .ok (.aload_n 0, 1) := dk_42 (dk_at dksX11_init_0 5 rfl rfl)
theorem dX11_init_6 : decode cX11_init 6 = .ok (.iload_n 2, 1) := dk_28 (dk_at dksX11_init_0 6 rfl rfl)
theorem dX11_init_7 : decode cX11_init 7 = .ok (.putfield 7, 3) := dk_181 0 7 (dk_at dksX11_init_0 7 rfl rfl)
theorem dX11_init_10 : decode cX11_init 10 = .ok (.aload_n 0, 1) := dk_42 (dk_at dksX11_init_0 10 rfl rfl)
theorem dX11_init_11 : decode cX11_init 11 = .ok (.invokespecial 11, 3) := dk_183 0 11 (dk_at dksX11_init_0 11 rfl rfl)
theorem dX11_init_14 : decode cX11_init 14 = .ok (.return_, 1) := dk_177 (dk_at dksX11_init_0 14 rfl rfl)
abbrev cX11_of : ByteArray := prog_2_method_2_code
def yX11_of : MethodName := ⟨RX11, "of", "(LOpenLines$Board;)I"⟩
def dkwX11_of_1 : List UInt8 := [184, 0, 27, 172]
abbrev dktX11_of_1 : List UInt8 := dkwX11_of_1 ++ []
def dkwX11_of_0 : List UInt8 := [42, 180, 0, 7, 4, 160, 0, 17, 42, 180, 0, 1, 180, 0, 17, 43, 184, 0, 23, 167, 0, 7, 43]
abbrev dktX11_of_0 : List UInt8 := dkwX11_of_0 ++ dktX11_of_1
theorem dksX11_of_0 : cX11_of.data.toList.drop 0 = dktX11_of_0 := by decide +kernel
theorem dksX11_of_1 : cX11_of.data.toList.drop 23 = dktX11_of_1 := dk_seg dksX11_of_0 23 rfl rfl
theorem dX11_of_0 : decode cX11_of 0 = .ok (.aload_n 0, 1) := dk_42 (dk_at dksX11_of_0 0 rfl rfl)
theorem dX11_of_1 : decode cX11_of 1 = .ok (.getfield 7, 3) := dk_180 0 7 (dk_at dksX11_of_0 1 rfl rfl)
theorem dX11_of_4 : decode cX11_of 4 = .ok (.iconst 1, 1) := dk_4 (dk_at dksX11_of_0 4 rfl rfl)
theorem dX11_of_5 : decode cX11_of 5 = .ok (.if_icmp .ne 17, 3) := dk_160 0 17 (dk_at dksX11_of_0 5 rfl rfl)
theorem dX11_of_8 : decode cX11_of 8 = .ok (.aload_n 0, 1) := dk_42 (dk_at dksX11_of_0 8 rfl rfl)
theorem dX11_of_9 : decode cX11_of 9 = .ok (.getfield 1, 3) := dk_180 0 1 (dk_at dksX11_of_0 9 rfl rfl)
theorem dX11_of_12 : decode cX11_of 12 = .ok (.getfield 17, 3) := dk_180 0 17 (dk_at dksX11_of_0 12 rfl rfl)
theorem dX11_of_15 : decode cX11_of 15 = .ok (.aload_n 1, 1) := dk_43 (dk_at dksX11_of_0 15 rfl rfl)
theorem dX11_of_16 : decode cX11_of 16 = .ok (.invokestatic 23, 3) := dk_184 0 23 (dk_at dksX11_of_0 16 rfl rfl)
theorem dX11_of_19 : decode cX11_of 19 = .ok (.goto 7, 3) := dk_167 0 7 (dk_at dksX11_of_0 19 rfl rfl)
theorem dX11_of_22 : decode cX11_of 22 = .ok (.aload_n 1, 1) := dk_43 (dk_at dksX11_of_0 22 rfl rfl)
theorem dX11_of_23 : decode cX11_of 23 = .ok (.invokestatic 27, 3) := dk_184 0 27 (dk_at dksX11_of_1 0 rfl rfl)
theorem dX11_of_26 : decode cX11_of 26 = .ok (.ireturn, 1) := dk_172 (dk_at dksX11_of_1 3 rfl rfl)
theorem q139 : (Jvm.Cond.initialized "OpenLines$1") ∈ lw_all := lw_g (lw_at lw_m1 38 rfl) rfl
theorem q349 : (Jvm.Cond.fieldLinkNest "OpenLines$1" (17 : Nat) "OpenLines" "now" "LOpenLines$Run;" "OpenLines") ∈ lw_tbl := lw_at lw_m2 8 rfl
theorem q796 : (Jvm.Cond.selects "OpenLines$1" ({ cls := "java/lang/Object", name := "hashCode", desc := "()I" } : Jvm.MethodName) ({ cls := "java/lang/Object", name := "hashCode", desc := "()I" } : Jvm.MethodName)) ∈ lw_all := lw_g (lw_at lw_m3 215 rfl) rfl
theorem q876 : (Jvm.Cond.selects "OpenLines$1" ({ cls := "java/lang/Object", name := "equals", desc := "(Ljava/lang/Object;)Z" } : Jvm.MethodName) ({ cls := "java/lang/Object", name := "equals", desc := "(Ljava/lang/Object;)Z" } : Jvm.MethodName)) ∈ lw_all := lw_g (lw_at lw_m4 55 rfl) rfl
theorem q933 : (Jvm.Cond.selects "OpenLines$1" ({ cls := "java/lang/Object", name := "getClass", desc := "()Ljava/lang/Class;" } : Jvm.MethodName) ({ cls := "java/lang/Object", name := "getClass", desc := "()Ljava/lang/Class;" } : Jvm.MethodName)) ∈ lw_all := lw_g (lw_at lw_m4 112 rfl) rfl
theorem q1520 : (Jvm.Cond.instantiable "OpenLines$1" (2 : Nat)) ∈ lw_all := lw_g (lw_at lw_m6 219 rfl) rfl
theorem q1522 : (Jvm.Cond.instanceMethod ({ cls := "OpenLines$1", name := "<init>", desc := "(LOpenLines;I)V" } : Jvm.MethodName)) ∈ lw_all := lw_g (lw_at lw_m6 221 rfl) rfl
theorem q1523 : (Jvm.Cond.code ({ cls := "OpenLines$1", name := "<init>", desc := "(LOpenLines;I)V" } : Jvm.MethodName) prog_2_method_1_code (3 : Nat) (Option.none : Option Jvm.ClassFile.FieldType)) ∈ lw_all := lw_g (lw_at lw_m6 222 rfl) rfl
theorem q1524 : (Jvm.Cond.methodLink "OpenLines$1" (11 : Nat) ({ cls := "java/lang/Object", name := "<init>", desc := "()V" } : Jvm.MethodName)) ∈ lw_all := lw_g (lw_at lw_m6 223 rfl) rfl
theorem q1525 : (Jvm.Cond.fieldLink "OpenLines$1" (7 : Nat) "OpenLines$1" "val$which" "I") ∈ lw_all := lw_g (lw_at lw_m6 224 rfl) rfl
theorem q1526 : (Jvm.Cond.fieldLink "OpenLines$1" (1 : Nat) "OpenLines$1" "this$0" "LOpenLines;") ∈ lw_all := lw_g (lw_at lw_m6 225 rfl) rfl
theorem q1527 : (Jvm.Cond.laysFinal "OpenLines$1" "OpenLines$1" "val$which" "I") ∈ lw_all := lw_g (lw_at lw_m6 226 rfl) rfl
theorem q1528 : (Jvm.Cond.soleField "OpenLines$1" "val$which") ∈ lw_all := lw_g (lw_at lw_m6 227 rfl) rfl
theorem q1529 : (Jvm.Cond.laysFinal "OpenLines$1" "OpenLines$1" "this$0" "LOpenLines;") ∈ lw_all := lw_g (lw_at lw_m6 228 rfl) rfl
theorem q1530 : (Jvm.Cond.soleField "OpenLines$1" "this$0") ∈ lw_all := lw_g (lw_at lw_m6 229 rfl) rfl
theorem q1531 : (Jvm.Cond.superclass "OpenLines$1" "java/lang/Object") ∈ lw_all := lw_g (lw_at lw_m6 230 rfl) rfl
theorem q1536 : (Jvm.Cond.castable "OpenLines$1" "OpenLines$Word") ∈ lw_tbl := lw_at lw_m6 235 rfl
theorem q1537 : (Jvm.Cond.selects "OpenLines$1" ({ cls := "OpenLines$Word", name := "of", desc := "(LOpenLines$Board;)I" } : Jvm.MethodName) ({ cls := "OpenLines$1", name := "of", desc := "(LOpenLines$Board;)I" } : Jvm.MethodName)) ∈ lw_all := lw_g (lw_at lw_m6 236 rfl) rfl
theorem q1538 : (Jvm.Cond.unhidden "OpenLines$1" "of" "(LOpenLines$Board;)I") ∈ lw_tbl := lw_at lw_m6 237 rfl
theorem q1539 : (Jvm.Cond.instanceMethod ({ cls := "OpenLines$1", name := "of", desc := "(LOpenLines$Board;)I" } : Jvm.MethodName)) ∈ lw_all := lw_g (lw_at lw_m6 238 rfl) rfl
theorem q1540 : (Jvm.Cond.publicMethod ({ cls := "OpenLines$1", name := "of", desc := "(LOpenLines$Board;)I" } : Jvm.MethodName)) ∈ lw_tbl := lw_at lw_m6 239 rfl
theorem q1541 : (Jvm.Cond.code ({ cls := "OpenLines$1", name := "of", desc := "(LOpenLines$Board;)I" } : Jvm.MethodName) prog_2_method_2_code (2 : Nat) (Option.some Jvm.ClassFile.FieldType.int)) ∈ lw_all := lw_g (lw_at lw_m7 0 rfl) rfl
theorem q1542 : (Jvm.Cond.methodLinkNest "OpenLines$1" (23 : Nat) ({ cls := "OpenLines", name := "firstWord", desc := "(LOpenLines$Run;LOpenLines$Board;)I" } : Jvm.MethodName) "OpenLines") ∈ lw_tbl := lw_at lw_m7 1 rfl
theorem q1554 : (Jvm.Cond.methodLinkNest "OpenLines$1" (27 : Nat) ({ cls := "OpenLines", name := "secondWord", desc := "(LOpenLines$Board;)I" } : Jvm.MethodName) "OpenLines") ∈ lw_tbl := lw_at lw_m7 13 rfl
theorem q2676 : (Jvm.Cond.castable "OpenLines$1" "java/lang/Object") ∈ lw_tbl := lw_at lw_m11 175 rfl
theorem in_X11 : ∀ w ∈ wsX110, w ∈ lw_all := lw_in wsX110 [1527, 1529] (by decide +kernel) (by decide +kernel)
/-! OpenLines$Run$1 -/
set_option maxRecDepth 100000
def RX12 : String := "OpenLines$Run$1"
def TX12 : u_T := fun k => match k with
  | _ => ("OpenLines$Run$1", "this$1", "LOpenLines$Run;", true)
def tyX12 : Nat → FieldType := fun k => match k with
  | _ => .object "OpenLines$Run"
abbrev wsX120 : List Cond := u_ws RX12 TX12 1
theorem nmX12 : ∀ a, a < 1 → ∀ b, b < 1 → a ≠ b → (TX12 a).2.1 ≠ (TX12 b).2.1 := by decide +kernel
theorem tyX12_ok : ∀ k, k < 1 → parseFieldDescriptor (TX12 k).2.2.1 = some (tyX12 k) := by decide +kernel
abbrev cX12_of : ByteArray := prog_14_method_2_code
def yX12_of : MethodName := ⟨RX12, "of", "(LOpenLines$Board;)I"⟩
theorem dX12_of_0 : decode cX12_of 0 = .ok (.aload_n 1, 1) := by decide +kernel
theorem dX12_of_1 : decode cX12_of 1 = .ok (.invokestatic 13, 3) := by decide +kernel
theorem dX12_of_4 : decode cX12_of 4 = .ok (.ireturn, 1) := by decide +kernel
abbrev cX12_init : ByteArray := prog_14_method_1_code
def yX12_init : MethodName := ⟨RX12, "<init>", "(LOpenLines$Run;)V"⟩
def dkwX12_init_0 : List UInt8 := [42, 43, 181, 0, 1, 42, 183, 0, 7, 177]
abbrev dktX12_init_0 : List UInt8 := dkwX12_init_0 ++ []
theorem dksX12_init_0 : cX12_init.data.toList.drop 0 = dktX12_init_0 := by decide +kernel
theorem dX12_init_0 : decode cX12_init 0 = .ok (.aload_n 0, 1) := dk_42 (dk_at dksX12_init_0 0 rfl rfl)
theorem dX12_init_1 : decode cX12_init 1 = .ok (.aload_n 1, 1) := dk_43 (dk_at dksX12_init_0 1 rfl rfl)
theorem dX12_init_2 : decode cX12_init 2 = .ok (.putfield 1, 3) := dk_181 0 1 (dk_at dksX12_init_0 2 rfl rfl)
theorem dX12_init_5 : decode cX12_init 5 = .ok (.aload_n 0, 1) := dk_42 (dk_at dksX12_init_0 5 rfl rfl)
theorem dX12_init_6 : decode cX12_init 6 = .ok (.invokespecial 7, 3) := dk_183 0 7 (dk_at dksX12_init_0 6 rfl rfl)
theorem dX12_init_9 : decode cX12_init 9 = .ok (.return_, 1) := dk_177 (dk_at dksX12_init_0 9 rfl rfl)
theorem q140 : (Jvm.Cond.initialized "OpenLines$Run$1") ∈ lw_all := lw_g (lw_at lw_m1 39 rfl) rfl
theorem q813 : (Jvm.Cond.selects "OpenLines$Run$1" ({ cls := "java/lang/Object", name := "hashCode", desc := "()I" } : Jvm.MethodName) ({ cls := "java/lang/Object", name := "hashCode", desc := "()I" } : Jvm.MethodName)) ∈ lw_all := lw_g (lw_at lw_m3 232 rfl) rfl
theorem q891 : (Jvm.Cond.selects "OpenLines$Run$1" ({ cls := "java/lang/Object", name := "equals", desc := "(Ljava/lang/Object;)Z" } : Jvm.MethodName) ({ cls := "java/lang/Object", name := "equals", desc := "(Ljava/lang/Object;)Z" } : Jvm.MethodName)) ∈ lw_all := lw_g (lw_at lw_m4 70 rfl) rfl
theorem q944 : (Jvm.Cond.selects "OpenLines$Run$1" ({ cls := "java/lang/Object", name := "getClass", desc := "()Ljava/lang/Class;" } : Jvm.MethodName) ({ cls := "java/lang/Object", name := "getClass", desc := "()Ljava/lang/Class;" } : Jvm.MethodName)) ∈ lw_all := lw_g (lw_at lw_m4 123 rfl) rfl
theorem q1557 : (Jvm.Cond.castable "OpenLines$Run$1" "OpenLines$Word") ∈ lw_tbl := lw_at lw_m7 16 rfl
theorem q1558 : (Jvm.Cond.selects "OpenLines$Run$1" ({ cls := "OpenLines$Word", name := "of", desc := "(LOpenLines$Board;)I" } : Jvm.MethodName) ({ cls := "OpenLines$Run$1", name := "of", desc := "(LOpenLines$Board;)I" } : Jvm.MethodName)) ∈ lw_all := lw_g (lw_at lw_m7 17 rfl) rfl
theorem q1559 : (Jvm.Cond.unhidden "OpenLines$Run$1" "of" "(LOpenLines$Board;)I") ∈ lw_tbl := lw_at lw_m7 18 rfl
theorem q1560 : (Jvm.Cond.instanceMethod ({ cls := "OpenLines$Run$1", name := "of", desc := "(LOpenLines$Board;)I" } : Jvm.MethodName)) ∈ lw_all := lw_g (lw_at lw_m7 19 rfl) rfl
theorem q1561 : (Jvm.Cond.publicMethod ({ cls := "OpenLines$Run$1", name := "of", desc := "(LOpenLines$Board;)I" } : Jvm.MethodName)) ∈ lw_tbl := lw_at lw_m7 20 rfl
theorem q1562 : (Jvm.Cond.code ({ cls := "OpenLines$Run$1", name := "of", desc := "(LOpenLines$Board;)I" } : Jvm.MethodName) prog_14_method_2_code (2 : Nat) (Option.some Jvm.ClassFile.FieldType.int)) ∈ lw_all := lw_g (lw_at lw_m7 21 rfl) rfl
theorem q1563 : (Jvm.Cond.methodLinkNest "OpenLines$Run$1" (13 : Nat) ({ cls := "OpenLines", name := "secondWord", desc := "(LOpenLines$Board;)I" } : Jvm.MethodName) "OpenLines") ∈ lw_tbl := lw_at lw_m7 22 rfl
theorem q1728 : (Jvm.Cond.instantiable "OpenLines$Run$1" (1 : Nat)) ∈ lw_all := lw_g (lw_at lw_m7 187 rfl) rfl
theorem q1730 : (Jvm.Cond.instanceMethod ({ cls := "OpenLines$Run$1", name := "<init>", desc := "(LOpenLines$Run;)V" } : Jvm.MethodName)) ∈ lw_all := lw_g (lw_at lw_m7 189 rfl) rfl
theorem q1731 : (Jvm.Cond.code ({ cls := "OpenLines$Run$1", name := "<init>", desc := "(LOpenLines$Run;)V" } : Jvm.MethodName) prog_14_method_1_code (2 : Nat) (Option.none : Option Jvm.ClassFile.FieldType)) ∈ lw_all := lw_g (lw_at lw_m7 190 rfl) rfl
theorem q1732 : (Jvm.Cond.methodLink "OpenLines$Run$1" (7 : Nat) ({ cls := "java/lang/Object", name := "<init>", desc := "()V" } : Jvm.MethodName)) ∈ lw_all := lw_g (lw_at lw_m7 191 rfl) rfl
theorem q1733 : (Jvm.Cond.fieldLink "OpenLines$Run$1" (1 : Nat) "OpenLines$Run$1" "this$1" "LOpenLines$Run;") ∈ lw_all := lw_g (lw_at lw_m7 192 rfl) rfl
theorem q1734 : (Jvm.Cond.laysFinal "OpenLines$Run$1" "OpenLines$Run$1" "this$1" "LOpenLines$Run;") ∈ lw_all := lw_g (lw_at lw_m7 193 rfl) rfl
theorem q1735 : (Jvm.Cond.soleField "OpenLines$Run$1" "this$1") ∈ lw_all := lw_g (lw_at lw_m7 194 rfl) rfl
theorem q1736 : (Jvm.Cond.superclass "OpenLines$Run$1" "java/lang/Object") ∈ lw_all := lw_g (lw_at lw_m7 195 rfl) rfl
theorem q2677 : (Jvm.Cond.castable "OpenLines$Run$1" "java/lang/Object") ∈ lw_tbl := lw_at lw_m11 176 rfl
theorem in_X12 : ∀ w ∈ wsX120, w ∈ lw_all := lw_in wsX120 [1734] (by decide +kernel) (by decide +kernel)
/-! OpenLines$Run$2 -/
set_option maxRecDepth 100000
def RX13 : String := "OpenLines$Run$2"
def TX13 : u_T := fun k => match k with
  | _ => ("OpenLines$Run$2", "this$1", "LOpenLines$Run;", true)
def tyX13 : Nat → FieldType := fun k => match k with
  | _ => .object "OpenLines$Run"
abbrev wsX130 : List Cond := u_ws RX13 TX13 1
theorem nmX13 : ∀ a, a < 1 → ∀ b, b < 1 → a ≠ b → (TX13 a).2.1 ≠ (TX13 b).2.1 := by decide +kernel
theorem tyX13_ok : ∀ k, k < 1 → parseFieldDescriptor (TX13 k).2.2.1 = some (tyX13 k) := by decide +kernel
abbrev cX13_of : ByteArray := prog_15_method_2_code
def yX13_of : MethodName := ⟨RX13, "of", "(LOpenLines$Board;)I"⟩
def dkwX13_of_0 : List UInt8 := [42, 180, 0, 1, 180, 0, 13, 43, 180, 0, 19, 46, 172]
abbrev dktX13_of_0 : List UInt8 := dkwX13_of_0 ++ []
theorem dksX13_of_0 : cX13_of.data.toList.drop 0 = dktX13_of_0 := by decide +kernel
theorem dX13_of_0 : decode cX13_of 0 = .ok (.aload_n 0, 1) := dk_42 (dk_at dksX13_of_0 0 rfl rfl)
theorem dX13_of_1 : decode cX13_of 1 = .ok (.getfield 1, 3) := dk_180 0 1 (dk_at dksX13_of_0 1 rfl rfl)
theorem dX13_of_4 : decode cX13_of 4 = .ok (.getfield 13, 3) := dk_180 0 13 (dk_at dksX13_of_0 4 rfl rfl)
theorem dX13_of_7 : decode cX13_of 7 = .ok (.aload_n 1, 1) := dk_43 (dk_at dksX13_of_0 7 rfl rfl)
theorem dX13_of_8 : decode cX13_of 8 = .ok (.getfield 19, 3) := dk_180 0 19 (dk_at dksX13_of_0 8 rfl rfl)
theorem dX13_of_11 : decode cX13_of 11 = .ok (.iaload, 1) := dk_46 (dk_at dksX13_of_0 11 rfl rfl)
theorem dX13_of_12 : decode cX13_of 12 = .ok (.ireturn, 1) := dk_172 (dk_at dksX13_of_0 12 rfl rfl)
abbrev cX13_init : ByteArray := prog_15_method_1_code
def yX13_init : MethodName := ⟨RX13, "<init>", "(LOpenLines$Run;)V"⟩
def dkwX13_init_0 : List UInt8 := [42, 43, 181, 0, 1, 42, 183, 0, 7, 177]
abbrev dktX13_init_0 : List UInt8 := dkwX13_init_0 ++ []
theorem dksX13_init_0 : cX13_init.data.toList.drop 0 = dktX13_init_0 := by decide +kernel
theorem dX13_init_0 : decode cX13_init 0 = .ok (.aload_n 0, 1) := dk_42 (dk_at dksX13_init_0 0 rfl rfl)
theorem dX13_init_1 : decode cX13_init 1 = .ok (.aload_n 1, 1) := dk_43 (dk_at dksX13_init_0 1 rfl rfl)
theorem dX13_init_2 : decode cX13_init 2 = .ok (.putfield 1, 3) := dk_181 0 1 (dk_at dksX13_init_0 2 rfl rfl)
theorem dX13_init_5 : decode cX13_init 5 = .ok (.aload_n 0, 1) := dk_42 (dk_at dksX13_init_0 5 rfl rfl)
theorem dX13_init_6 : decode cX13_init 6 = .ok (.invokespecial 7, 3) := dk_183 0 7 (dk_at dksX13_init_0 6 rfl rfl)
theorem dX13_init_9 : decode cX13_init 9 = .ok (.return_, 1) := dk_177 (dk_at dksX13_init_0 9 rfl rfl)
theorem q141 : (Jvm.Cond.initialized "OpenLines$Run$2") ∈ lw_all := lw_g (lw_at lw_m1 40 rfl) rfl
theorem q266 : (Jvm.Cond.fieldLinkNest "OpenLines$Run$2" (13 : Nat) "OpenLines$Run" "words" "[I" "OpenLines") ∈ lw_tbl := lw_at lw_m1 165 rfl
theorem q814 : (Jvm.Cond.selects "OpenLines$Run$2" ({ cls := "java/lang/Object", name := "hashCode", desc := "()I" } : Jvm.MethodName) ({ cls := "java/lang/Object", name := "hashCode", desc := "()I" } : Jvm.MethodName)) ∈ lw_all := lw_g (lw_at lw_m3 233 rfl) rfl
theorem q892 : (Jvm.Cond.selects "OpenLines$Run$2" ({ cls := "java/lang/Object", name := "equals", desc := "(Ljava/lang/Object;)Z" } : Jvm.MethodName) ({ cls := "java/lang/Object", name := "equals", desc := "(Ljava/lang/Object;)Z" } : Jvm.MethodName)) ∈ lw_all := lw_g (lw_at lw_m4 71 rfl) rfl
theorem q945 : (Jvm.Cond.selects "OpenLines$Run$2" ({ cls := "java/lang/Object", name := "getClass", desc := "()Ljava/lang/Class;" } : Jvm.MethodName) ({ cls := "java/lang/Object", name := "getClass", desc := "()Ljava/lang/Class;" } : Jvm.MethodName)) ∈ lw_all := lw_g (lw_at lw_m4 124 rfl) rfl
theorem q1140 : (Jvm.Cond.fieldLinkNest "OpenLines$Run$2" (19 : Nat) "OpenLines$Board" "number" "I" "OpenLines") ∈ lw_tbl := lw_at lw_m5 79 rfl
theorem q1564 : (Jvm.Cond.castable "OpenLines$Run$2" "OpenLines$Word") ∈ lw_tbl := lw_at lw_m7 23 rfl
theorem q1565 : (Jvm.Cond.selects "OpenLines$Run$2" ({ cls := "OpenLines$Word", name := "of", desc := "(LOpenLines$Board;)I" } : Jvm.MethodName) ({ cls := "OpenLines$Run$2", name := "of", desc := "(LOpenLines$Board;)I" } : Jvm.MethodName)) ∈ lw_all := lw_g (lw_at lw_m7 24 rfl) rfl
theorem q1566 : (Jvm.Cond.unhidden "OpenLines$Run$2" "of" "(LOpenLines$Board;)I") ∈ lw_tbl := lw_at lw_m7 25 rfl
theorem q1567 : (Jvm.Cond.instanceMethod ({ cls := "OpenLines$Run$2", name := "of", desc := "(LOpenLines$Board;)I" } : Jvm.MethodName)) ∈ lw_all := lw_g (lw_at lw_m7 26 rfl) rfl
theorem q1568 : (Jvm.Cond.publicMethod ({ cls := "OpenLines$Run$2", name := "of", desc := "(LOpenLines$Board;)I" } : Jvm.MethodName)) ∈ lw_tbl := lw_at lw_m7 27 rfl
theorem q1569 : (Jvm.Cond.code ({ cls := "OpenLines$Run$2", name := "of", desc := "(LOpenLines$Board;)I" } : Jvm.MethodName) prog_15_method_2_code (2 : Nat) (Option.some Jvm.ClassFile.FieldType.int)) ∈ lw_all := lw_g (lw_at lw_m7 28 rfl) rfl
theorem q1869 : (Jvm.Cond.instantiable "OpenLines$Run$2" (1 : Nat)) ∈ lw_all := lw_g (lw_at lw_m8 88 rfl) rfl
theorem q1871 : (Jvm.Cond.instanceMethod ({ cls := "OpenLines$Run$2", name := "<init>", desc := "(LOpenLines$Run;)V" } : Jvm.MethodName)) ∈ lw_all := lw_g (lw_at lw_m8 90 rfl) rfl
theorem q1872 : (Jvm.Cond.code ({ cls := "OpenLines$Run$2", name := "<init>", desc := "(LOpenLines$Run;)V" } : Jvm.MethodName) prog_15_method_1_code (2 : Nat) (Option.none : Option Jvm.ClassFile.FieldType)) ∈ lw_all := lw_g (lw_at lw_m8 91 rfl) rfl
theorem q1873 : (Jvm.Cond.methodLink "OpenLines$Run$2" (7 : Nat) ({ cls := "java/lang/Object", name := "<init>", desc := "()V" } : Jvm.MethodName)) ∈ lw_all := lw_g (lw_at lw_m8 92 rfl) rfl
theorem q1874 : (Jvm.Cond.fieldLink "OpenLines$Run$2" (1 : Nat) "OpenLines$Run$2" "this$1" "LOpenLines$Run;") ∈ lw_all := lw_g (lw_at lw_m8 93 rfl) rfl
theorem q1875 : (Jvm.Cond.laysFinal "OpenLines$Run$2" "OpenLines$Run$2" "this$1" "LOpenLines$Run;") ∈ lw_all := lw_g (lw_at lw_m8 94 rfl) rfl
theorem q1876 : (Jvm.Cond.soleField "OpenLines$Run$2" "this$1") ∈ lw_all := lw_g (lw_at lw_m8 95 rfl) rfl
theorem q1877 : (Jvm.Cond.superclass "OpenLines$Run$2" "java/lang/Object") ∈ lw_all := lw_g (lw_at lw_m8 96 rfl) rfl
theorem q2678 : (Jvm.Cond.castable "OpenLines$Run$2" "java/lang/Object") ∈ lw_tbl := lw_at lw_m11 177 rfl
theorem in_X13 : ∀ w ∈ wsX130, w ∈ lw_all := lw_in wsX130 [1875] (by decide +kernel) (by decide +kernel)
/-! OpenLines$Entry -/
set_option maxRecDepth 100000
def RX14 : String := "OpenLines$Entry"
def TX14 : u_T := fun k => match k with
  | 0 => ("OpenLines$Entry", "time", "I", true)
  | 1 => ("OpenLines$Entry", "set", "I", true)
  | 2 => ("OpenLines$Entry", "first", "I", true)
  | 3 => ("OpenLines$Entry", "second", "I", true)
  | 4 => ("OpenLines$Entry", "elect", "I", true)
  | _ => ("OpenLines$Entry", "faulty", "I", true)
def tyX14 : Nat → FieldType := fun k => match k with
  | 0 => .int
  | 1 => .int
  | 2 => .int
  | 3 => .int
  | 4 => .int
  | _ => .int
abbrev wsX140 : List Cond := u_ws RX14 TX14 6
theorem nmX14 : ∀ a, a < 6 → ∀ b, b < 6 → a ≠ b → (TX14 a).2.1 ≠ (TX14 b).2.1 := by decide +kernel
theorem tyX14_ok : ∀ k, k < 6 → parseFieldDescriptor (TX14 k).2.2.1 = some (tyX14 k) := by decide +kernel
abbrev cX14_hashCode : ByteArray := prog_8_method_3_code
def yX14_hashCode : MethodName := ⟨RX14, "hashCode", "()I"⟩
theorem dX14_hashCode_0 : decode cX14_hashCode 0 = .ok (.aload_n 0, 1) := by decide +kernel
theorem dX14_hashCode_1 : decode cX14_hashCode 1 = .ok (.invokedynamic 32, 5) := by decide +kernel
theorem dX14_hashCode_6 : decode cX14_hashCode 6 = .ok (.ireturn, 1) := by decide +kernel
abbrev cX14_equals : ByteArray := prog_8_method_4_code
def yX14_equals : MethodName := ⟨RX14, "equals", "(Ljava/lang/Object;)Z"⟩
def dkwX14_equals_0 : List UInt8 := [42, 43, 186, 0, 36, 0, 0, 172]
abbrev dktX14_equals_0 : List UInt8 := dkwX14_equals_0 ++ []
theorem dksX14_equals_0 : cX14_equals.data.toList.drop 0 = dktX14_equals_0 := by decide +kernel
theorem dX14_equals_0 : decode cX14_equals 0 = .ok (.aload_n 0, 1) := dk_42 (dk_at dksX14_equals_0 0 rfl rfl)
theorem dX14_equals_1 : decode cX14_equals 1 = .ok (.aload_n 1, 1) := dk_43 (dk_at dksX14_equals_0 1 rfl rfl)
theorem dX14_equals_2 : decode cX14_equals 2 = .ok (.invokedynamic 36, 5) := by decide +kernel
theorem dX14_equals_7 : decode cX14_equals 7 = .ok (.ireturn, 1) := dk_172 (dk_at dksX14_equals_0 7 rfl rfl)
abbrev cX14_time : ByteArray := prog_8_method_5_code
def yX14_time : MethodName := ⟨RX14, "time", "()I"⟩
theorem dX14_time_0 : decode cX14_time 0 = .ok (.aload_n 0, 1) := by decide +kernel
theorem dX14_time_1 : decode cX14_time 1 = .ok (.getfield 7, 3) := by decide +kernel
theorem dX14_time_4 : decode cX14_time 4 = .ok (.ireturn, 1) := by decide +kernel
abbrev cX14_set : ByteArray := prog_8_method_6_code
def yX14_set : MethodName := ⟨RX14, "set", "()I"⟩
theorem dX14_set_0 : decode cX14_set 0 = .ok (.aload_n 0, 1) := by decide +kernel
theorem dX14_set_1 : decode cX14_set 1 = .ok (.getfield 13, 3) := by decide +kernel
theorem dX14_set_4 : decode cX14_set 4 = .ok (.ireturn, 1) := by decide +kernel
abbrev cX14_first : ByteArray := prog_8_method_7_code
def yX14_first : MethodName := ⟨RX14, "first", "()I"⟩
theorem dX14_first_0 : decode cX14_first 0 = .ok (.aload_n 0, 1) := by decide +kernel
theorem dX14_first_1 : decode cX14_first 1 = .ok (.getfield 16, 3) := by decide +kernel
theorem dX14_first_4 : decode cX14_first 4 = .ok (.ireturn, 1) := by decide +kernel
abbrev cX14_second : ByteArray := prog_8_method_8_code
def yX14_second : MethodName := ⟨RX14, "second", "()I"⟩
theorem dX14_second_0 : decode cX14_second 0 = .ok (.aload_n 0, 1) := by decide +kernel
theorem dX14_second_1 : decode cX14_second 1 = .ok (.getfield 19, 3) := by decide +kernel
theorem dX14_second_4 : decode cX14_second 4 = .ok (.ireturn, 1) := by decide +kernel
abbrev cX14_elect : ByteArray := prog_8_method_9_code
def yX14_elect : MethodName := ⟨RX14, "elect", "()I"⟩
theorem dX14_elect_0 : decode cX14_elect 0 = .ok (.aload_n 0, 1) := by decide +kernel
theorem dX14_elect_1 : decode cX14_elect 1 = .ok (.getfield 22, 3) := by decide +kernel
theorem dX14_elect_4 : decode cX14_elect 4 = .ok (.ireturn, 1) := by decide +kernel
abbrev cX14_faulty : ByteArray := prog_8_method_10_code
def yX14_faulty : MethodName := ⟨RX14, "faulty", "()I"⟩
theorem dX14_faulty_0 : decode cX14_faulty 0 = .ok (.aload_n 0, 1) := by decide +kernel
theorem dX14_faulty_1 : decode cX14_faulty 1 = .ok (.getfield 25, 3) := by decide +kernel
theorem dX14_faulty_4 : decode cX14_faulty 4 = .ok (.ireturn, 1) := by decide +kernel
abbrev cX14_init : ByteArray := prog_8_method_1_code
def yX14_init : MethodName := ⟨RX14, "<init>", "(IIIIII)V"⟩
def dkwX14_init_1 : List UInt8 := [181, 0, 19, 42, 21, 5, 181, 0, 22, 42, 21, 6, 181, 0, 25, 177]
abbrev dktX14_init_1 : List UInt8 := dkwX14_init_1 ++ []
def dkwX14_init_0 : List UInt8 := [42, 183, 0, 1, 42, 27, 181, 0, 7, 42, 28, 181, 0, 13, 42, 29, 181, 0, 16, 42, 21, 4]
abbrev dktX14_init_0 : List UInt8 := dkwX14_init_0 ++ dktX14_init_1
theorem dksX14_init_0 : cX14_init.data.toList.drop 0 = dktX14_init_0 := by decide +kernel
theorem dksX14_init_1 : cX14_init.data.toList.drop 22 = dktX14_init_1 := dk_seg dksX14_init_0 22 rfl rfl
theorem dX14_init_0 : decode cX14_init 0 = .ok (.aload_n 0, 1) := dk_42 (dk_at dksX14_init_0 0 rfl rfl)
theorem dX14_init_1 : decode cX14_init 1 = .ok (.invokespecial 1, 3) := dk_183 0 1 (dk_at dksX14_init_0 1 rfl rfl)
theorem dX14_init_4 : decode cX14_init 4 = .ok (.aload_n 0, 1) := dk_42 (dk_at dksX14_init_0 4 rfl rfl)
theorem dX14_init_5 : decode cX14_init 5 = .ok (.iload_n 1, 1) := dk_27 (dk_at dksX14_init_0 5 rfl rfl)
theorem dX14_init_6 : decode cX14_init 6 = .ok (.putfield 7, 3) := dk_181 0 7 (dk_at dksX14_init_0 6 rfl rfl)
theorem dX14_init_9 : decode cX14_init 9 = .ok (.aload_n 0, 1) := dk_42 (dk_at dksX14_init_0 9 rfl rfl)
theorem dX14_init_10 : decode cX14_init 10 = .ok (.iload_n 2, 1) := dk_28 (dk_at dksX14_init_0 10 rfl rfl)
theorem dX14_init_11 : decode cX14_init 11 = .ok (.putfield 13, 3) := dk_181 0 13 (dk_at dksX14_init_0 11 rfl rfl)
theorem dX14_init_14 : decode cX14_init 14 = .ok (.aload_n 0, 1) := dk_42 (dk_at dksX14_init_0 14 rfl rfl)
theorem dX14_init_15 : decode cX14_init 15 = .ok (.iload_n 3, 1) := dk_29 (dk_at dksX14_init_0 15 rfl rfl)
theorem dX14_init_16 : decode cX14_init 16 = .ok (.putfield 16, 3) := dk_181 0 16 (dk_at dksX14_init_0 16 rfl rfl)
theorem dX14_init_19 : decode cX14_init 19 = .ok (.aload_n 0, 1) := dk_42 (dk_at dksX14_init_0 19 rfl rfl)
theorem dX14_init_20 : decode cX14_init 20 = .ok (.iload 4, 2) := dk_21 4 (dk_at dksX14_init_0 20 rfl rfl)
theorem dX14_init_22 : decode cX14_init 22 = .ok (.putfield 19, 3) := dk_181 0 19 (dk_at dksX14_init_1 0 rfl rfl)
theorem dX14_init_25 : decode cX14_init 25 = .ok (.aload_n 0, 1) := dk_42 (dk_at dksX14_init_1 3 rfl rfl)
theorem dX14_init_26 : decode cX14_init 26 = .ok (.iload 5, 2) := dk_21 5 (dk_at dksX14_init_1 4 rfl rfl)
theorem dX14_init_28 : decode cX14_init 28 = .ok (.putfield 22, 3) := dk_181 0 22 (dk_at dksX14_init_1 6 rfl rfl)
theorem dX14_init_31 : decode cX14_init 31 = .ok (.aload_n 0, 1) := dk_42 (dk_at dksX14_init_1 9 rfl rfl)
theorem dX14_init_32 : decode cX14_init 32 = .ok (.iload 6, 2) := dk_21 6 (dk_at dksX14_init_1 10 rfl rfl)
theorem dX14_init_34 : decode cX14_init 34 = .ok (.putfield 25, 3) := dk_181 0 25 (dk_at dksX14_init_1 12 rfl rfl)
theorem dX14_init_37 : decode cX14_init 37 = .ok (.return_, 1) := dk_177 (dk_at dksX14_init_1 15 rfl rfl)
theorem q142 : (Jvm.Cond.initialized "OpenLines$Entry") ∈ lw_all := lw_g (lw_at lw_m1 41 rfl) rfl
theorem q806 : (Jvm.Cond.selects "OpenLines$Entry" ({ cls := "java/lang/Object", name := "hashCode", desc := "()I" } : Jvm.MethodName) ({ cls := "OpenLines$Entry", name := "hashCode", desc := "()I" } : Jvm.MethodName)) ∈ lw_all := lw_g (lw_at lw_m3 225 rfl) rfl
theorem q807 : (Jvm.Cond.instanceMethod ({ cls := "OpenLines$Entry", name := "hashCode", desc := "()I" } : Jvm.MethodName)) ∈ lw_all := lw_g (lw_at lw_m3 226 rfl) rfl
theorem q808 : (Jvm.Cond.code ({ cls := "OpenLines$Entry", name := "hashCode", desc := "()I" } : Jvm.MethodName) prog_8_method_3_code (1 : Nat) (Option.some Jvm.ClassFile.FieldType.int)) ∈ lw_all := lw_g (lw_at lw_m3 227 rfl) rfl
theorem q884 : (Jvm.Cond.selects "OpenLines$Entry" ({ cls := "java/lang/Object", name := "equals", desc := "(Ljava/lang/Object;)Z" } : Jvm.MethodName) ({ cls := "OpenLines$Entry", name := "equals", desc := "(Ljava/lang/Object;)Z" } : Jvm.MethodName)) ∈ lw_all := lw_g (lw_at lw_m4 63 rfl) rfl
theorem q885 : (Jvm.Cond.instanceMethod ({ cls := "OpenLines$Entry", name := "equals", desc := "(Ljava/lang/Object;)Z" } : Jvm.MethodName)) ∈ lw_all := lw_g (lw_at lw_m4 64 rfl) rfl
theorem q886 : (Jvm.Cond.code ({ cls := "OpenLines$Entry", name := "equals", desc := "(Ljava/lang/Object;)Z" } : Jvm.MethodName) prog_8_method_4_code (2 : Nat) (Option.some Jvm.ClassFile.FieldType.boolean)) ∈ lw_all := lw_g (lw_at lw_m4 65 rfl) rfl
theorem q939 : (Jvm.Cond.selects "OpenLines$Entry" ({ cls := "java/lang/Object", name := "getClass", desc := "()Ljava/lang/Class;" } : Jvm.MethodName) ({ cls := "java/lang/Object", name := "getClass", desc := "()Ljava/lang/Class;" } : Jvm.MethodName)) ∈ lw_all := lw_g (lw_at lw_m4 118 rfl) rfl
theorem q1766 : (Jvm.Cond.instanceMethod ({ cls := "OpenLines$Entry", name := "time", desc := "()I" } : Jvm.MethodName)) ∈ lw_all := lw_g (lw_at lw_m7 225 rfl) rfl
theorem q1767 : (Jvm.Cond.selects "OpenLines$Entry" ({ cls := "OpenLines$Entry", name := "time", desc := "()I" } : Jvm.MethodName) ({ cls := "OpenLines$Entry", name := "time", desc := "()I" } : Jvm.MethodName)) ∈ lw_all := lw_g (lw_at lw_m7 226 rfl) rfl
theorem q1768 : (Jvm.Cond.code ({ cls := "OpenLines$Entry", name := "time", desc := "()I" } : Jvm.MethodName) prog_8_method_5_code (1 : Nat) (Option.some Jvm.ClassFile.FieldType.int)) ∈ lw_all := lw_g (lw_at lw_m7 227 rfl) rfl
theorem q1770 : (Jvm.Cond.instanceMethod ({ cls := "OpenLines$Entry", name := "set", desc := "()I" } : Jvm.MethodName)) ∈ lw_all := lw_g (lw_at lw_m7 229 rfl) rfl
theorem q1771 : (Jvm.Cond.selects "OpenLines$Entry" ({ cls := "OpenLines$Entry", name := "set", desc := "()I" } : Jvm.MethodName) ({ cls := "OpenLines$Entry", name := "set", desc := "()I" } : Jvm.MethodName)) ∈ lw_all := lw_g (lw_at lw_m7 230 rfl) rfl
theorem q1772 : (Jvm.Cond.code ({ cls := "OpenLines$Entry", name := "set", desc := "()I" } : Jvm.MethodName) prog_8_method_6_code (1 : Nat) (Option.some Jvm.ClassFile.FieldType.int)) ∈ lw_all := lw_g (lw_at lw_m7 231 rfl) rfl
theorem q1774 : (Jvm.Cond.instanceMethod ({ cls := "OpenLines$Entry", name := "first", desc := "()I" } : Jvm.MethodName)) ∈ lw_all := lw_g (lw_at lw_m7 233 rfl) rfl
theorem q1775 : (Jvm.Cond.selects "OpenLines$Entry" ({ cls := "OpenLines$Entry", name := "first", desc := "()I" } : Jvm.MethodName) ({ cls := "OpenLines$Entry", name := "first", desc := "()I" } : Jvm.MethodName)) ∈ lw_all := lw_g (lw_at lw_m7 234 rfl) rfl
theorem q1776 : (Jvm.Cond.code ({ cls := "OpenLines$Entry", name := "first", desc := "()I" } : Jvm.MethodName) prog_8_method_7_code (1 : Nat) (Option.some Jvm.ClassFile.FieldType.int)) ∈ lw_all := lw_g (lw_at lw_m7 235 rfl) rfl
theorem q1778 : (Jvm.Cond.instanceMethod ({ cls := "OpenLines$Entry", name := "second", desc := "()I" } : Jvm.MethodName)) ∈ lw_all := lw_g (lw_at lw_m7 237 rfl) rfl
theorem q1779 : (Jvm.Cond.selects "OpenLines$Entry" ({ cls := "OpenLines$Entry", name := "second", desc := "()I" } : Jvm.MethodName) ({ cls := "OpenLines$Entry", name := "second", desc := "()I" } : Jvm.MethodName)) ∈ lw_all := lw_g (lw_at lw_m7 238 rfl) rfl
theorem q1780 : (Jvm.Cond.code ({ cls := "OpenLines$Entry", name := "second", desc := "()I" } : Jvm.MethodName) prog_8_method_8_code (1 : Nat) (Option.some Jvm.ClassFile.FieldType.int)) ∈ lw_all := lw_g (lw_at lw_m7 239 rfl) rfl
theorem q1782 : (Jvm.Cond.instanceMethod ({ cls := "OpenLines$Entry", name := "elect", desc := "()I" } : Jvm.MethodName)) ∈ lw_all := lw_g (lw_at lw_m8 1 rfl) rfl
theorem q1783 : (Jvm.Cond.selects "OpenLines$Entry" ({ cls := "OpenLines$Entry", name := "elect", desc := "()I" } : Jvm.MethodName) ({ cls := "OpenLines$Entry", name := "elect", desc := "()I" } : Jvm.MethodName)) ∈ lw_all := lw_g (lw_at lw_m8 2 rfl) rfl
theorem q1784 : (Jvm.Cond.code ({ cls := "OpenLines$Entry", name := "elect", desc := "()I" } : Jvm.MethodName) prog_8_method_9_code (1 : Nat) (Option.some Jvm.ClassFile.FieldType.int)) ∈ lw_all := lw_g (lw_at lw_m8 3 rfl) rfl
theorem q1786 : (Jvm.Cond.instanceMethod ({ cls := "OpenLines$Entry", name := "faulty", desc := "()I" } : Jvm.MethodName)) ∈ lw_all := lw_g (lw_at lw_m8 5 rfl) rfl
theorem q1787 : (Jvm.Cond.selects "OpenLines$Entry" ({ cls := "OpenLines$Entry", name := "faulty", desc := "()I" } : Jvm.MethodName) ({ cls := "OpenLines$Entry", name := "faulty", desc := "()I" } : Jvm.MethodName)) ∈ lw_all := lw_g (lw_at lw_m8 6 rfl) rfl
theorem q1788 : (Jvm.Cond.code ({ cls := "OpenLines$Entry", name := "faulty", desc := "()I" } : Jvm.MethodName) prog_8_method_10_code (1 : Nat) (Option.some Jvm.ClassFile.FieldType.int)) ∈ lw_all := lw_g (lw_at lw_m8 7 rfl) rfl
theorem q1892 : (Jvm.Cond.instantiable "OpenLines$Entry" (6 : Nat)) ∈ lw_all := lw_g (lw_at lw_m8 111 rfl) rfl
theorem q1894 : (Jvm.Cond.instanceMethod ({ cls := "OpenLines$Entry", name := "<init>", desc := "(IIIIII)V" } : Jvm.MethodName)) ∈ lw_all := lw_g (lw_at lw_m8 113 rfl) rfl
theorem q1895 : (Jvm.Cond.code ({ cls := "OpenLines$Entry", name := "<init>", desc := "(IIIIII)V" } : Jvm.MethodName) prog_8_method_1_code (7 : Nat) (Option.none : Option Jvm.ClassFile.FieldType)) ∈ lw_all := lw_g (lw_at lw_m8 114 rfl) rfl
theorem q1896 : (Jvm.Cond.methodLink "OpenLines$Entry" (1 : Nat) ({ cls := "java/lang/Record", name := "<init>", desc := "()V" } : Jvm.MethodName)) ∈ lw_all := lw_g (lw_at lw_m8 115 rfl) rfl
theorem q1897 : (Jvm.Cond.fieldLink "OpenLines$Entry" (7 : Nat) "OpenLines$Entry" "time" "I") ∈ lw_all := lw_g (lw_at lw_m8 116 rfl) rfl
theorem q1898 : (Jvm.Cond.fieldLink "OpenLines$Entry" (13 : Nat) "OpenLines$Entry" "set" "I") ∈ lw_all := lw_g (lw_at lw_m8 117 rfl) rfl
theorem q1899 : (Jvm.Cond.fieldLink "OpenLines$Entry" (16 : Nat) "OpenLines$Entry" "first" "I") ∈ lw_all := lw_g (lw_at lw_m8 118 rfl) rfl
theorem q1900 : (Jvm.Cond.fieldLink "OpenLines$Entry" (19 : Nat) "OpenLines$Entry" "second" "I") ∈ lw_all := lw_g (lw_at lw_m8 119 rfl) rfl
theorem q1901 : (Jvm.Cond.fieldLink "OpenLines$Entry" (22 : Nat) "OpenLines$Entry" "elect" "I") ∈ lw_all := lw_g (lw_at lw_m8 120 rfl) rfl
theorem q1902 : (Jvm.Cond.fieldLink "OpenLines$Entry" (25 : Nat) "OpenLines$Entry" "faulty" "I") ∈ lw_all := lw_g (lw_at lw_m8 121 rfl) rfl
theorem q1903 : (Jvm.Cond.laysFinal "OpenLines$Entry" "OpenLines$Entry" "time" "I") ∈ lw_all := lw_g (lw_at lw_m8 122 rfl) rfl
theorem q1904 : (Jvm.Cond.soleField "OpenLines$Entry" "time") ∈ lw_all := lw_g (lw_at lw_m8 123 rfl) rfl
theorem q1905 : (Jvm.Cond.laysFinal "OpenLines$Entry" "OpenLines$Entry" "set" "I") ∈ lw_all := lw_g (lw_at lw_m8 124 rfl) rfl
theorem q1906 : (Jvm.Cond.soleField "OpenLines$Entry" "set") ∈ lw_all := lw_g (lw_at lw_m8 125 rfl) rfl
theorem q1907 : (Jvm.Cond.laysFinal "OpenLines$Entry" "OpenLines$Entry" "first" "I") ∈ lw_all := lw_g (lw_at lw_m8 126 rfl) rfl
theorem q1908 : (Jvm.Cond.soleField "OpenLines$Entry" "first") ∈ lw_all := lw_g (lw_at lw_m8 127 rfl) rfl
theorem q1909 : (Jvm.Cond.laysFinal "OpenLines$Entry" "OpenLines$Entry" "second" "I") ∈ lw_all := lw_g (lw_at lw_m8 128 rfl) rfl
theorem q1910 : (Jvm.Cond.soleField "OpenLines$Entry" "second") ∈ lw_all := lw_g (lw_at lw_m8 129 rfl) rfl
theorem q1911 : (Jvm.Cond.laysFinal "OpenLines$Entry" "OpenLines$Entry" "elect" "I") ∈ lw_all := lw_g (lw_at lw_m8 130 rfl) rfl
theorem q1912 : (Jvm.Cond.soleField "OpenLines$Entry" "elect") ∈ lw_all := lw_g (lw_at lw_m8 131 rfl) rfl
theorem q1913 : (Jvm.Cond.laysFinal "OpenLines$Entry" "OpenLines$Entry" "faulty" "I") ∈ lw_all := lw_g (lw_at lw_m8 132 rfl) rfl
theorem q1914 : (Jvm.Cond.soleField "OpenLines$Entry" "faulty") ∈ lw_all := lw_g (lw_at lw_m8 133 rfl) rfl
theorem q1915 : (Jvm.Cond.superclass "OpenLines$Entry" "java/lang/Record") ∈ lw_all := lw_g (lw_at lw_m8 134 rfl) rfl
theorem q2679 : (Jvm.Cond.castable "OpenLines$Entry" "java/lang/Object") ∈ lw_tbl := lw_at lw_m11 178 rfl
theorem in_X14 : ∀ w ∈ wsX140, w ∈ lw_all := lw_in wsX140 [1903, 1905, 1907, 1909, 1911, 1913] (by decide +kernel) (by decide +kernel)
/-! OpenLines$Bus$1Those -/
set_option maxRecDepth 100000
def RX15 : String := "OpenLines$Bus$1Those"
def TX15 : u_T := fun k => match k with
  | 0 => ("OpenLines$Bus$1Those", "val$set", "I", true)
  | _ => ("OpenLines$Bus$1Those", "this$0", "LOpenLines$Bus;", true)
def tyX15 : Nat → FieldType := fun k => match k with
  | 0 => .int
  | _ => .object "OpenLines$Bus"
abbrev wsX150 : List Cond := u_ws RX15 TX15 2
theorem nmX15 : ∀ a, a < 2 → ∀ b, b < 2 → a ≠ b → (TX15 a).2.1 ≠ (TX15 b).2.1 := by decide +kernel
theorem tyX15_ok : ∀ k, k < 2 → parseFieldDescriptor (TX15 k).2.2.1 = some (tyX15 k) := by decide +kernel
abbrev cX15_init : ByteArray := prog_6_method_1_code
def yX15_init : MethodName := ⟨RX15, "<init>", "(LOpenLines$Bus;I)V"⟩
def dkwX15_init_0 : List UInt8 := [42, 43, 181, 0, 1, 42, 28, 181, 0, 7, 42, 183, 0, 11, 177]
abbrev dktX15_init_0 : List UInt8 := dkwX15_init_0 ++ []
theorem dksX15_init_0 : cX15_init.data.toList.drop 0 = dktX15_init_0 := by decide +kernel
theorem dX15_init_0 : decode cX15_init 0 = .ok (.aload_n 0, 1) := dk_42 (dk_at dksX15_init_0 0 rfl rfl)
theorem dX15_init_1 : decode cX15_init 1 = .ok (.aload_n 1, 1) := dk_43 (dk_at dksX15_init_0 1 rfl rfl)
theorem dX15_init_2 : decode cX15_init 2 = .ok (.putfield 1, 3) := dk_181 0 1 (dk_at dksX15_init_0 2 rfl rfl)
theorem dX15_init_5 : decode cX15_init 5 = .ok (.aload_n 0, 1) := dk_42 (dk_at dksX15_init_0 5 rfl rfl)
theorem dX15_init_6 : decode cX15_init 6 = .ok (.iload_n 2, 1) := dk_28 (dk_at dksX15_init_0 6 rfl rfl)
theorem dX15_init_7 : decode cX15_init 7 = .ok (.putfield 7, 3) := dk_181 0 7 (dk_at dksX15_init_0 7 rfl rfl)
theorem dX15_init_10 : decode cX15_init 10 = .ok (.aload_n 0, 1) := dk_42 (dk_at dksX15_init_0 10 rfl rfl)
theorem dX15_init_11 : decode cX15_init 11 = .ok (.invokespecial 11, 3) := dk_183 0 11 (dk_at dksX15_init_0 11 rfl rfl)
theorem dX15_init_14 : decode cX15_init 14 = .ok (.return_, 1) := dk_177 (dk_at dksX15_init_0 14 rfl rfl)
abbrev cX15_iterator : ByteArray := prog_6_method_2_code
def yX15_iterator : MethodName := ⟨RX15, "iterator", "()Ljava/util/Iterator;"⟩
def dkwX15_iterator_0 : List UInt8 := [187, 0, 17, 89, 42, 183, 0, 19, 176]
abbrev dktX15_iterator_0 : List UInt8 := dkwX15_iterator_0 ++ []
theorem dksX15_iterator_0 : cX15_iterator.data.toList.drop 0 = dktX15_iterator_0 := by decide +kernel
theorem dX15_iterator_0 : decode cX15_iterator 0 = .ok (.new 17, 3) := dk_187 0 17 (dk_at dksX15_iterator_0 0 rfl rfl)
theorem dX15_iterator_3 : decode cX15_iterator 3 = .ok (.dup, 1) := dk_89 (dk_at dksX15_iterator_0 3 rfl rfl)
theorem dX15_iterator_4 : decode cX15_iterator 4 = .ok (.aload_n 0, 1) := dk_42 (dk_at dksX15_iterator_0 4 rfl rfl)
theorem dX15_iterator_5 : decode cX15_iterator 5 = .ok (.invokespecial 19, 3) := dk_183 0 19 (dk_at dksX15_iterator_0 5 rfl rfl)
theorem dX15_iterator_8 : decode cX15_iterator 8 = .ok (.areturn, 1) := dk_176 (dk_at dksX15_iterator_0 8 rfl rfl)
theorem q143 : (Jvm.Cond.initialized "OpenLines$Bus$1Those") ∈ lw_all := lw_g (lw_at lw_m1 42 rfl) rfl
theorem q804 : (Jvm.Cond.selects "OpenLines$Bus$1Those" ({ cls := "java/lang/Object", name := "hashCode", desc := "()I" } : Jvm.MethodName) ({ cls := "java/lang/Object", name := "hashCode", desc := "()I" } : Jvm.MethodName)) ∈ lw_all := lw_g (lw_at lw_m3 223 rfl) rfl
theorem q882 : (Jvm.Cond.selects "OpenLines$Bus$1Those" ({ cls := "java/lang/Object", name := "equals", desc := "(Ljava/lang/Object;)Z" } : Jvm.MethodName) ({ cls := "java/lang/Object", name := "equals", desc := "(Ljava/lang/Object;)Z" } : Jvm.MethodName)) ∈ lw_all := lw_g (lw_at lw_m4 61 rfl) rfl
theorem q937 : (Jvm.Cond.selects "OpenLines$Bus$1Those" ({ cls := "java/lang/Object", name := "getClass", desc := "()Ljava/lang/Class;" } : Jvm.MethodName) ({ cls := "java/lang/Object", name := "getClass", desc := "()Ljava/lang/Class;" } : Jvm.MethodName)) ∈ lw_all := lw_g (lw_at lw_m4 116 rfl) rfl
theorem q1935 : (Jvm.Cond.instantiable "OpenLines$Bus$1Those" (2 : Nat)) ∈ lw_all := lw_g (lw_at lw_m8 154 rfl) rfl
theorem q1937 : (Jvm.Cond.instanceMethod ({ cls := "OpenLines$Bus$1Those", name := "<init>", desc := "(LOpenLines$Bus;I)V" } : Jvm.MethodName)) ∈ lw_all := lw_g (lw_at lw_m8 156 rfl) rfl
theorem q1938 : (Jvm.Cond.code ({ cls := "OpenLines$Bus$1Those", name := "<init>", desc := "(LOpenLines$Bus;I)V" } : Jvm.MethodName) prog_6_method_1_code (3 : Nat) (Option.none : Option Jvm.ClassFile.FieldType)) ∈ lw_all := lw_g (lw_at lw_m8 157 rfl) rfl
theorem q1939 : (Jvm.Cond.methodLink "OpenLines$Bus$1Those" (11 : Nat) ({ cls := "java/lang/Object", name := "<init>", desc := "()V" } : Jvm.MethodName)) ∈ lw_all := lw_g (lw_at lw_m8 158 rfl) rfl
theorem q1940 : (Jvm.Cond.fieldLink "OpenLines$Bus$1Those" (7 : Nat) "OpenLines$Bus$1Those" "val$set" "I") ∈ lw_all := lw_g (lw_at lw_m8 159 rfl) rfl
theorem q1942 : (Jvm.Cond.fieldLink "OpenLines$Bus$1Those" (1 : Nat) "OpenLines$Bus$1Those" "this$0" "LOpenLines$Bus;") ∈ lw_all := lw_g (lw_at lw_m8 161 rfl) rfl
theorem q1944 : (Jvm.Cond.laysFinal "OpenLines$Bus$1Those" "OpenLines$Bus$1Those" "val$set" "I") ∈ lw_all := lw_g (lw_at lw_m8 163 rfl) rfl
theorem q1945 : (Jvm.Cond.soleField "OpenLines$Bus$1Those" "val$set") ∈ lw_all := lw_g (lw_at lw_m8 164 rfl) rfl
theorem q1946 : (Jvm.Cond.laysFinal "OpenLines$Bus$1Those" "OpenLines$Bus$1Those" "this$0" "LOpenLines$Bus;") ∈ lw_all := lw_g (lw_at lw_m8 165 rfl) rfl
theorem q1947 : (Jvm.Cond.soleField "OpenLines$Bus$1Those" "this$0") ∈ lw_all := lw_g (lw_at lw_m8 166 rfl) rfl
theorem q1948 : (Jvm.Cond.superclass "OpenLines$Bus$1Those" "java/lang/Object") ∈ lw_all := lw_g (lw_at lw_m8 167 rfl) rfl
theorem q1953 : (Jvm.Cond.castable "OpenLines$Bus$1Those" "java/lang/Iterable") ∈ lw_tbl := lw_at lw_m8 172 rfl
theorem q1954 : (Jvm.Cond.selects "OpenLines$Bus$1Those" ({ cls := "java/lang/Iterable", name := "iterator", desc := "()Ljava/util/Iterator;" } : Jvm.MethodName) ({ cls := "OpenLines$Bus$1Those", name := "iterator", desc := "()Ljava/util/Iterator;" } : Jvm.MethodName)) ∈ lw_all := lw_g (lw_at lw_m8 173 rfl) rfl
theorem q1955 : (Jvm.Cond.unhidden "OpenLines$Bus$1Those" "iterator" "()Ljava/util/Iterator;") ∈ lw_tbl := lw_at lw_m8 174 rfl
theorem q1956 : (Jvm.Cond.instanceMethod ({ cls := "OpenLines$Bus$1Those", name := "iterator", desc := "()Ljava/util/Iterator;" } : Jvm.MethodName)) ∈ lw_all := lw_g (lw_at lw_m8 175 rfl) rfl
theorem q1957 : (Jvm.Cond.publicMethod ({ cls := "OpenLines$Bus$1Those", name := "iterator", desc := "()Ljava/util/Iterator;" } : Jvm.MethodName)) ∈ lw_tbl := lw_at lw_m8 176 rfl
theorem q1958 : (Jvm.Cond.code ({ cls := "OpenLines$Bus$1Those", name := "iterator", desc := "()Ljava/util/Iterator;" } : Jvm.MethodName) prog_6_method_2_code (1 : Nat) (Option.some (Jvm.ClassFile.FieldType.object "java/util/Iterator"))) ∈ lw_all := lw_g (lw_at lw_m8 177 rfl) rfl
theorem q1959 : (Jvm.Cond.classLink "OpenLines$Bus$1Those" (17 : Nat) "OpenLines$Bus$1Those$1") ∈ lw_all := lw_g (lw_at lw_m8 178 rfl) rfl
theorem q1961 : (Jvm.Cond.methodLink "OpenLines$Bus$1Those" (19 : Nat) ({ cls := "OpenLines$Bus$1Those$1", name := "<init>", desc := "(LOpenLines$Bus$1Those;)V" } : Jvm.MethodName)) ∈ lw_all := lw_g (lw_at lw_m8 180 rfl) rfl
theorem q2680 : (Jvm.Cond.castable "OpenLines$Bus$1Those" "java/lang/Object") ∈ lw_tbl := lw_at lw_m11 179 rfl
theorem in_X15 : ∀ w ∈ wsX150, w ∈ lw_all := lw_in wsX150 [1944, 1946] (by decide +kernel) (by decide +kernel)
/-! OpenLines$Bus$1Those$1 -/
set_option maxRecDepth 100000
def RX16 : String := "OpenLines$Bus$1Those$1"
def TX16 : u_T := fun k => match k with
  | 0 => ("OpenLines$Bus$1Those$1", "left", "I", false)
  | _ => ("OpenLines$Bus$1Those$1", "this$1", "LOpenLines$Bus$1Those;", true)
def tyX16 : Nat → FieldType := fun k => match k with
  | 0 => .int
  | _ => .object "OpenLines$Bus$1Those"
abbrev wsX160 : List Cond := u_ws RX16 TX16 2
theorem nmX16 : ∀ a, a < 2 → ∀ b, b < 2 → a ≠ b → (TX16 a).2.1 ≠ (TX16 b).2.1 := by decide +kernel
theorem tyX16_ok : ∀ k, k < 2 → parseFieldDescriptor (TX16 k).2.2.1 = some (tyX16 k) := by decide +kernel
abbrev cX16_init : ByteArray := prog_7_method_1_code
def yX16_init : MethodName := ⟨RX16, "<init>", "(LOpenLines$Bus$1Those;)V"⟩
def dkwX16_init_0 : List UInt8 := [42, 43, 181, 0, 1, 42, 183, 0, 7, 42, 42, 180, 0, 1, 180, 0, 13, 181, 0, 19, 177]
abbrev dktX16_init_0 : List UInt8 := dkwX16_init_0 ++ []
theorem dksX16_init_0 : cX16_init.data.toList.drop 0 = dktX16_init_0 := by decide +kernel
theorem dX16_init_0 : decode cX16_init 0 = .ok (.aload_n 0, 1) := dk_42 (dk_at dksX16_init_0 0 rfl rfl)
theorem dX16_init_1 : decode cX16_init 1 = .ok (.aload_n 1, 1) := dk_43 (dk_at dksX16_init_0 1 rfl rfl)
theorem dX16_init_2 : decode cX16_init 2 = .ok (.putfield 1, 3) := dk_181 0 1 (dk_at dksX16_init_0 2 rfl rfl)
theorem dX16_init_5 : decode cX16_init 5 = .ok (.aload_n 0, 1) := dk_42 (dk_at dksX16_init_0 5 rfl rfl)
theorem dX16_init_6 : decode cX16_init 6 = .ok (.invokespecial 7, 3) := dk_183 0 7 (dk_at dksX16_init_0 6 rfl rfl)
theorem dX16_init_9 : decode cX16_init 9 = .ok (.aload_n 0, 1) := dk_42 (dk_at dksX16_init_0 9 rfl rfl)
theorem dX16_init_10 : decode cX16_init 10 = .ok (.aload_n 0, 1) := dk_42 (dk_at dksX16_init_0 10 rfl rfl)
theorem dX16_init_11 : decode cX16_init 11 = .ok (.getfield 1, 3) := dk_180 0 1 (dk_at dksX16_init_0 11 rfl rfl)
theorem dX16_init_14 : decode cX16_init 14 = .ok (.getfield 13, 3) := dk_180 0 13 (dk_at dksX16_init_0 14 rfl rfl)
theorem dX16_init_17 : decode cX16_init 17 = .ok (.putfield 19, 3) := dk_181 0 19 (dk_at dksX16_init_0 17 rfl rfl)
theorem dX16_init_20 : decode cX16_init 20 = .ok (.return_, 1) := dk_177 (dk_at dksX16_init_0 20 rfl rfl)
abbrev cX16_hasNext : ByteArray := prog_7_method_2_code
def yX16_hasNext : MethodName := ⟨RX16, "hasNext", "()Z"⟩
def dkwX16_hasNext_0 : List UInt8 := [42, 180, 0, 19, 153, 0, 7, 4, 167, 0, 4, 3, 172]
abbrev dktX16_hasNext_0 : List UInt8 := dkwX16_hasNext_0 ++ []
theorem dksX16_hasNext_0 : cX16_hasNext.data.toList.drop 0 = dktX16_hasNext_0 := by decide +kernel
theorem dX16_hasNext_0 : decode cX16_hasNext 0 = .ok (.aload_n 0, 1) := dk_42 (dk_at dksX16_hasNext_0 0 rfl rfl)
theorem dX16_hasNext_1 : decode cX16_hasNext 1 = .ok (.getfield 19, 3) := dk_180 0 19 (dk_at dksX16_hasNext_0 1 rfl rfl)
theorem dX16_hasNext_4 : decode cX16_hasNext 4 = .ok (.ifCond .eq 7, 3) := dk_153 0 7 (dk_at dksX16_hasNext_0 4 rfl rfl)
theorem dX16_hasNext_7 : decode cX16_hasNext 7 = .ok (.iconst 1, 1) := dk_4 (dk_at dksX16_hasNext_0 7 rfl rfl)
theorem dX16_hasNext_8 : decode cX16_hasNext 8 = .ok (.goto 4, 3) := dk_167 0 4 (dk_at dksX16_hasNext_0 8 rfl rfl)
theorem dX16_hasNext_11 : decode cX16_hasNext 11 = .ok (.iconst 0, 1) := dk_3 (dk_at dksX16_hasNext_0 11 rfl rfl)
theorem dX16_hasNext_12 : decode cX16_hasNext 12 = .ok (.ireturn, 1) := dk_172 (dk_at dksX16_hasNext_0 12 rfl rfl)
abbrev cX16_next : ByteArray := prog_7_method_4_code
def yX16_next : MethodName := ⟨RX16, "next", "()Ljava/lang/Object;"⟩
theorem dX16_next_0 : decode cX16_next 0 = .ok (.aload_n 0, 1) := by decide +kernel
theorem dX16_next_1 : decode cX16_next 1 = .ok (.invokevirtual 41, 3) := by decide +kernel
theorem dX16_next_4 : decode cX16_next 4 = .ok (.areturn, 1) := by decide +kernel
abbrev cX16_next_2 : ByteArray := prog_7_method_3_code
def yX16_next_2 : MethodName := ⟨RX16, "next", "()LOpenLines$Board;"⟩
def dkwX16_next_2_2 : List UInt8 := [182, 0, 35, 176]
abbrev dktX16_next_2_2 : List UInt8 := dkwX16_next_2_2 ++ []
def dkwX16_next_2_1 : List UInt8 := [89, 180, 0, 19, 42, 180, 0, 19, 4, 100, 126, 181, 0, 19, 42, 180, 0, 1, 180, 0, 31, 27]
abbrev dktX16_next_2_1 : List UInt8 := dkwX16_next_2_1 ++ dktX16_next_2_2
def dkwX16_next_2_0 : List UInt8 := [42, 180, 0, 19, 154, 0, 11, 187, 0, 22, 89, 183, 0, 24, 191, 42, 180, 0, 19, 184, 0, 25, 60, 42]
abbrev dktX16_next_2_0 : List UInt8 := dkwX16_next_2_0 ++ dktX16_next_2_1
theorem dksX16_next_2_0 : cX16_next_2.data.toList.drop 0 = dktX16_next_2_0 := by decide +kernel
theorem dksX16_next_2_1 : cX16_next_2.data.toList.drop 24 = dktX16_next_2_1 := dk_seg dksX16_next_2_0 24 rfl rfl
theorem dksX16_next_2_2 : cX16_next_2.data.toList.drop 46 = dktX16_next_2_2 := dk_seg dksX16_next_2_1 22 rfl rfl
theorem dX16_next_2_0 : decode cX16_next_2 0 = .ok (.aload_n 0, 1) := dk_42 (dk_at dksX16_next_2_0 0 rfl rfl)
theorem dX16_next_2_1 : decode cX16_next_2 1 = .ok (.getfield 19, 3) := dk_180 0 19 (dk_at dksX16_next_2_0 1 rfl rfl)
theorem dX16_next_2_4 : decode cX16_next_2 4 = .ok (.ifCond .ne 11, 3) := dk_154 0 11 (dk_at dksX16_next_2_0 4 rfl rfl)
theorem dX16_next_2_7 : decode cX16_next_2 7 = .ok (.new 22, 3) := dk_187 0 22 (dk_at dksX16_next_2_0 7 rfl rfl)
theorem dX16_next_2_10 : decode cX16_next_2 10 = .ok (.dup, 1) := dk_89 (dk_at dksX16_next_2_0 10 rfl rfl)
theorem dX16_next_2_11 : decode cX16_next_2 11 = .ok (.invokespecial 24, 3) := dk_183 0 24 (dk_at dksX16_next_2_0 11 rfl rfl)
theorem dX16_next_2_14 : decode cX16_next_2 14 = .ok (.athrow, 1) := dk_191 (dk_at dksX16_next_2_0 14 rfl rfl)
theorem dX16_next_2_15 : decode cX16_next_2 15 = .ok (.aload_n 0, 1) := dk_42 (dk_at dksX16_next_2_0 15 rfl rfl)
theorem dX16_next_2_16 : decode cX16_next_2 16 = .ok (.getfield 19, 3) := dk_180 0 19 (dk_at dksX16_next_2_0 16 rfl rfl)
theorem dX16_next_2_19 : decode cX16_next_2 19 = .ok (.invokestatic 25, 3) := dk_184 0 25 (dk_at dksX16_next_2_0 19 rfl rfl)
theorem dX16_next_2_22 : decode cX16_next_2 22 = .ok (.istore_n 1, 1) := dk_60 (dk_at dksX16_next_2_0 22 rfl rfl)
theorem dX16_next_2_23 : decode cX16_next_2 23 = .ok (.aload_n 0, 1) := dk_42 (dk_at dksX16_next_2_0 23 rfl rfl)
theorem dX16_next_2_24 : decode cX16_next_2 24 = .ok (.dup, 1) := dk_89 (dk_at dksX16_next_2_1 0 rfl rfl)
theorem dX16_next_2_25 : decode cX16_next_2 25 = .ok (.getfield 19, 3) := dk_180 0 19 (dk_at dksX16_next_2_1 1 rfl rfl)
theorem dX16_next_2_28 : decode cX16_next_2 28 = .ok (.aload_n 0, 1) := dk_42 (dk_at dksX16_next_2_1 4 rfl rfl)
theorem dX16_next_2_29 : decode cX16_next_2 29 = .ok (.getfield 19, 3) := dk_180 0 19 (dk_at dksX16_next_2_1 5 rfl rfl)
theorem dX16_next_2_32 : decode cX16_next_2 32 = .ok (.iconst 1, 1) := dk_4 (dk_at dksX16_next_2_1 8 rfl rfl)
theorem dX16_next_2_33 : decode cX16_next_2 33 = .ok (.isub, 1) := dk_100 (dk_at dksX16_next_2_1 9 rfl rfl)
theorem dX16_next_2_34 : decode cX16_next_2 34 = .ok (.iand, 1) := dk_126 (dk_at dksX16_next_2_1 10 rfl rfl)
theorem dX16_next_2_35 : decode cX16_next_2 35 = .ok (.putfield 19, 3) := dk_181 0 19 (dk_at dksX16_next_2_1 11 rfl rfl)
theorem dX16_next_2_38 : decode cX16_next_2 38 = .ok (.aload_n 0, 1) := dk_42 (dk_at dksX16_next_2_1 14 rfl rfl)
theorem dX16_next_2_39 : decode cX16_next_2 39 = .ok (.getfield 1, 3) := dk_180 0 1 (dk_at dksX16_next_2_1 15 rfl rfl)
theorem dX16_next_2_42 : decode cX16_next_2 42 = .ok (.getfield 31, 3) := dk_180 0 31 (dk_at dksX16_next_2_1 18 rfl rfl)
theorem dX16_next_2_45 : decode cX16_next_2 45 = .ok (.iload_n 1, 1) := dk_27 (dk_at dksX16_next_2_1 21 rfl rfl)
theorem dX16_next_2_46 : decode cX16_next_2 46 = .ok (.invokevirtual 35, 3) := dk_182 0 35 (dk_at dksX16_next_2_2 0 rfl rfl)
theorem dX16_next_2_49 : decode cX16_next_2 49 = .ok (.areturn, 1) := dk_176 (dk_at dksX16_next_2_2 3 rfl rfl)
theorem q144 : (Jvm.Cond.initialized "OpenLines$Bus$1Those$1") ∈ lw_all := lw_g (lw_at lw_m1 43 rfl) rfl
theorem q805 : (Jvm.Cond.selects "OpenLines$Bus$1Those$1" ({ cls := "java/lang/Object", name := "hashCode", desc := "()I" } : Jvm.MethodName) ({ cls := "java/lang/Object", name := "hashCode", desc := "()I" } : Jvm.MethodName)) ∈ lw_all := lw_g (lw_at lw_m3 224 rfl) rfl
theorem q883 : (Jvm.Cond.selects "OpenLines$Bus$1Those$1" ({ cls := "java/lang/Object", name := "equals", desc := "(Ljava/lang/Object;)Z" } : Jvm.MethodName) ({ cls := "java/lang/Object", name := "equals", desc := "(Ljava/lang/Object;)Z" } : Jvm.MethodName)) ∈ lw_all := lw_g (lw_at lw_m4 62 rfl) rfl
theorem q938 : (Jvm.Cond.selects "OpenLines$Bus$1Those$1" ({ cls := "java/lang/Object", name := "getClass", desc := "()Ljava/lang/Class;" } : Jvm.MethodName) ({ cls := "java/lang/Object", name := "getClass", desc := "()Ljava/lang/Class;" } : Jvm.MethodName)) ∈ lw_all := lw_g (lw_at lw_m4 117 rfl) rfl
theorem q1941 : (Jvm.Cond.fieldLink "OpenLines$Bus$1Those$1" (13 : Nat) "OpenLines$Bus$1Those" "val$set" "I") ∈ lw_all := lw_g (lw_at lw_m8 160 rfl) rfl
theorem q1943 : (Jvm.Cond.fieldLink "OpenLines$Bus$1Those$1" (31 : Nat) "OpenLines$Bus$1Those" "this$0" "LOpenLines$Bus;") ∈ lw_all := lw_g (lw_at lw_m8 162 rfl) rfl
theorem q1960 : (Jvm.Cond.instantiable "OpenLines$Bus$1Those$1" (2 : Nat)) ∈ lw_all := lw_g (lw_at lw_m8 179 rfl) rfl
theorem q1962 : (Jvm.Cond.instanceMethod ({ cls := "OpenLines$Bus$1Those$1", name := "<init>", desc := "(LOpenLines$Bus$1Those;)V" } : Jvm.MethodName)) ∈ lw_all := lw_g (lw_at lw_m8 181 rfl) rfl
theorem q1963 : (Jvm.Cond.code ({ cls := "OpenLines$Bus$1Those$1", name := "<init>", desc := "(LOpenLines$Bus$1Those;)V" } : Jvm.MethodName) prog_7_method_1_code (2 : Nat) (Option.none : Option Jvm.ClassFile.FieldType)) ∈ lw_all := lw_g (lw_at lw_m8 182 rfl) rfl
theorem q1964 : (Jvm.Cond.methodLink "OpenLines$Bus$1Those$1" (7 : Nat) ({ cls := "java/lang/Object", name := "<init>", desc := "()V" } : Jvm.MethodName)) ∈ lw_all := lw_g (lw_at lw_m8 183 rfl) rfl
theorem q1965 : (Jvm.Cond.fieldLink "OpenLines$Bus$1Those$1" (19 : Nat) "OpenLines$Bus$1Those$1" "left" "I") ∈ lw_all := lw_g (lw_at lw_m8 184 rfl) rfl
theorem q1966 : (Jvm.Cond.fieldLink "OpenLines$Bus$1Those$1" (1 : Nat) "OpenLines$Bus$1Those$1" "this$1" "LOpenLines$Bus$1Those;") ∈ lw_all := lw_g (lw_at lw_m8 185 rfl) rfl
theorem q1967 : (Jvm.Cond.lays "OpenLines$Bus$1Those$1" "OpenLines$Bus$1Those$1" "left" "I") ∈ lw_all := lw_g (lw_at lw_m8 186 rfl) rfl
theorem q1968 : (Jvm.Cond.soleField "OpenLines$Bus$1Those$1" "left") ∈ lw_all := lw_g (lw_at lw_m8 187 rfl) rfl
theorem q1969 : (Jvm.Cond.laysFinal "OpenLines$Bus$1Those$1" "OpenLines$Bus$1Those$1" "this$1" "LOpenLines$Bus$1Those;") ∈ lw_all := lw_g (lw_at lw_m8 188 rfl) rfl
theorem q1970 : (Jvm.Cond.soleField "OpenLines$Bus$1Those$1" "this$1") ∈ lw_all := lw_g (lw_at lw_m8 189 rfl) rfl
theorem q1971 : (Jvm.Cond.superclass "OpenLines$Bus$1Those$1" "java/lang/Object") ∈ lw_all := lw_g (lw_at lw_m8 190 rfl) rfl
theorem q2001 : (Jvm.Cond.castable "OpenLines$Bus$1Those$1" "java/util/Iterator") ∈ lw_tbl := lw_at lw_m8 220 rfl
theorem q2002 : (Jvm.Cond.selects "OpenLines$Bus$1Those$1" ({ cls := "java/util/Iterator", name := "hasNext", desc := "()Z" } : Jvm.MethodName) ({ cls := "OpenLines$Bus$1Those$1", name := "hasNext", desc := "()Z" } : Jvm.MethodName)) ∈ lw_all := lw_g (lw_at lw_m8 221 rfl) rfl
theorem q2003 : (Jvm.Cond.unhidden "OpenLines$Bus$1Those$1" "hasNext" "()Z") ∈ lw_tbl := lw_at lw_m8 222 rfl
theorem q2004 : (Jvm.Cond.instanceMethod ({ cls := "OpenLines$Bus$1Those$1", name := "hasNext", desc := "()Z" } : Jvm.MethodName)) ∈ lw_all := lw_g (lw_at lw_m8 223 rfl) rfl
theorem q2005 : (Jvm.Cond.publicMethod ({ cls := "OpenLines$Bus$1Those$1", name := "hasNext", desc := "()Z" } : Jvm.MethodName)) ∈ lw_tbl := lw_at lw_m8 224 rfl
theorem q2006 : (Jvm.Cond.code ({ cls := "OpenLines$Bus$1Those$1", name := "hasNext", desc := "()Z" } : Jvm.MethodName) prog_7_method_2_code (1 : Nat) (Option.some Jvm.ClassFile.FieldType.boolean)) ∈ lw_all := lw_g (lw_at lw_m8 225 rfl) rfl
theorem q2017 : (Jvm.Cond.selects "OpenLines$Bus$1Those$1" ({ cls := "java/util/Iterator", name := "next", desc := "()Ljava/lang/Object;" } : Jvm.MethodName) ({ cls := "OpenLines$Bus$1Those$1", name := "next", desc := "()Ljava/lang/Object;" } : Jvm.MethodName)) ∈ lw_all := lw_g (lw_at lw_m8 236 rfl) rfl
theorem q2018 : (Jvm.Cond.unhidden "OpenLines$Bus$1Those$1" "next" "()Ljava/lang/Object;") ∈ lw_tbl := lw_at lw_m8 237 rfl
theorem q2019 : (Jvm.Cond.instanceMethod ({ cls := "OpenLines$Bus$1Those$1", name := "next", desc := "()Ljava/lang/Object;" } : Jvm.MethodName)) ∈ lw_all := lw_g (lw_at lw_m8 238 rfl) rfl
theorem q2020 : (Jvm.Cond.publicMethod ({ cls := "OpenLines$Bus$1Those$1", name := "next", desc := "()Ljava/lang/Object;" } : Jvm.MethodName)) ∈ lw_tbl := lw_at lw_m8 239 rfl
theorem q2021 : (Jvm.Cond.code ({ cls := "OpenLines$Bus$1Those$1", name := "next", desc := "()Ljava/lang/Object;" } : Jvm.MethodName) prog_7_method_4_code (1 : Nat) (Option.some (Jvm.ClassFile.FieldType.object "java/lang/Object"))) ∈ lw_all := lw_g (lw_at lw_m9 0 rfl) rfl
theorem q2022 : (Jvm.Cond.methodLink "OpenLines$Bus$1Those$1" (41 : Nat) ({ cls := "OpenLines$Bus$1Those$1", name := "next", desc := "()LOpenLines$Board;" } : Jvm.MethodName)) ∈ lw_all := lw_g (lw_at lw_m9 1 rfl) rfl
theorem q2023 : (Jvm.Cond.instanceMethod ({ cls := "OpenLines$Bus$1Those$1", name := "next", desc := "()LOpenLines$Board;" } : Jvm.MethodName)) ∈ lw_all := lw_g (lw_at lw_m9 2 rfl) rfl
theorem q2024 : (Jvm.Cond.selects "OpenLines$Bus$1Those$1" ({ cls := "OpenLines$Bus$1Those$1", name := "next", desc := "()LOpenLines$Board;" } : Jvm.MethodName) ({ cls := "OpenLines$Bus$1Those$1", name := "next", desc := "()LOpenLines$Board;" } : Jvm.MethodName)) ∈ lw_all := lw_g (lw_at lw_m9 3 rfl) rfl
theorem q2025 : (Jvm.Cond.code ({ cls := "OpenLines$Bus$1Those$1", name := "next", desc := "()LOpenLines$Board;" } : Jvm.MethodName) prog_7_method_3_code (2 : Nat) (Option.some (Jvm.ClassFile.FieldType.object "OpenLines$Board"))) ∈ lw_all := lw_g (lw_at lw_m9 4 rfl) rfl
theorem q2026 : (Jvm.Cond.classLink "OpenLines$Bus$1Those$1" (22 : Nat) "java/util/NoSuchElementException") ∈ lw_all := lw_g (lw_at lw_m9 5 rfl) rfl
theorem q2037 : (Jvm.Cond.methodLink "OpenLines$Bus$1Those$1" (24 : Nat) ({ cls := "java/util/NoSuchElementException", name := "<init>", desc := "()V" } : Jvm.MethodName)) ∈ lw_all := lw_g (lw_at lw_m9 16 rfl) rfl
theorem q2049 : (Jvm.Cond.methodLink "OpenLines$Bus$1Those$1" (25 : Nat) ({ cls := "java/lang/Integer", name := "numberOfTrailingZeros", desc := "(I)I" } : Jvm.MethodName)) ∈ lw_all := lw_g (lw_at lw_m9 28 rfl) rfl
theorem q2050 : (Jvm.Cond.methodLink "OpenLines$Bus$1Those$1" (35 : Nat) ({ cls := "OpenLines$Bus", name := "board", desc := "(I)LOpenLines$Board;" } : Jvm.MethodName)) ∈ lw_all := lw_g (lw_at lw_m9 29 rfl) rfl
theorem q2681 : (Jvm.Cond.castable "OpenLines$Bus$1Those$1" "java/lang/Object") ∈ lw_tbl := lw_at lw_m11 180 rfl
theorem in_X16 : ∀ w ∈ wsX160, w ∈ lw_all := lw_in wsX160 [1967, 1969] (by decide +kernel) (by decide +kernel)
/-! OpenLines$Ranked -/
set_option maxRecDepth 100000
def RX17 : String := "OpenLines$Ranked"
abbrev cX17_ofTheDay : ByteArray := prog_11_method_2_code
def yX17_ofTheDay : MethodName := ⟨RX17, "ofTheDay", "(LOpenLines$Run;)I"⟩
theorem dX17_ofTheDay_0 : decode cX17_ofTheDay 0 = .ok (.aload_n 0, 1) := by decide +kernel
theorem dX17_ofTheDay_1 : decode cX17_ofTheDay 1 = .ok (.invokeinterface 1 1, 5) := by decide +kernel
theorem dX17_ofTheDay_6 : decode cX17_ofTheDay 6 = .ok (.ireturn, 1) := by decide +kernel
theorem q1473 : (Jvm.Cond.declares ({ cls := "OpenLines$Ranked", name := "ofTheDay", desc := "(LOpenLines$Run;)I" } : Jvm.MethodName)) ∈ lw_tbl := lw_at lw_m6 172 rfl
theorem q1474 : (Jvm.Cond.instanceMethod ({ cls := "OpenLines$Ranked", name := "ofTheDay", desc := "(LOpenLines$Run;)I" } : Jvm.MethodName)) ∈ lw_all := lw_g (lw_at lw_m6 173 rfl) rfl
theorem q1475 : (Jvm.Cond.code ({ cls := "OpenLines$Ranked", name := "ofTheDay", desc := "(LOpenLines$Run;)I" } : Jvm.MethodName) prog_11_method_2_code (2 : Nat) (Option.some Jvm.ClassFile.FieldType.int)) ∈ lw_all := lw_g (lw_at lw_m6 174 rfl) rfl
theorem q1476 : (Jvm.Cond.interfaceEntry "OpenLines$Ranked" (1 : Nat)) ∈ lw_tbl := lw_at lw_m6 175 rfl
theorem q1477 : (Jvm.Cond.methodLink "OpenLines$Ranked" (1 : Nat) ({ cls := "OpenLines$Ranked", name := "own", desc := "()I" } : Jvm.MethodName)) ∈ lw_all := lw_g (lw_at lw_m6 176 rfl) rfl
theorem q1478 : (Jvm.Cond.interfaceMethod "OpenLines$Ranked" "OpenLines$Ranked" "own" "()I") ∈ lw_tbl := lw_at lw_m6 177 rfl
theorem q1479 : (Jvm.Cond.declares ({ cls := "OpenLines$Ranked", name := "own", desc := "()I" } : Jvm.MethodName)) ∈ lw_tbl := lw_at lw_m6 178 rfl
theorem q2657 : (Jvm.Cond.initialized "OpenLines$Ranked") ∈ lw_all := lw_g (lw_at lw_m11 156 rfl) rfl
theorem q1534 : (Jvm.Cond.interfaceMethod "OpenLines$Word" "OpenLines$Word" "of" "(LOpenLines$Board;)I") ∈ lw_tbl := lw_at lw_m6 233 rfl
set_option maxRecDepth 100000
theorem q1535 : (Jvm.Cond.declares ({ cls := "OpenLines$Word", name := "of", desc := "(LOpenLines$Board;)I" } : Jvm.MethodName)) ∈ lw_tbl := lw_at lw_m6 234 rfl
theorem q2693 : (Jvm.Cond.castable "[B" "java/lang/Object") ∈ lw_tbl := lw_at lw_m11 192 rfl
set_option maxRecDepth 100000
theorem q2691 : (Jvm.Cond.castable "[I" "java/lang/Object") ∈ lw_tbl := lw_at lw_m11 190 rfl
set_option maxRecDepth 100000
theorem q2696 : (Jvm.Cond.castable "[J" "java/lang/Object") ∈ lw_tbl := lw_at lw_m11 195 rfl
set_option maxRecDepth 100000
theorem q2688 : (Jvm.Cond.sameMethod "[Ljava/lang/Object;" "java/lang/Object" "getClass" "()Ljava/lang/Class;") ∈ lw_all := lw_g (lw_at lw_m11 187 rfl) rfl
set_option maxRecDepth 100000
theorem q2689 : (Jvm.Cond.selects "[Ljava/lang/Object;" ({ cls := "java/lang/Object", name := "getClass", desc := "()Ljava/lang/Class;" } : Jvm.MethodName) ({ cls := "java/lang/Object", name := "getClass", desc := "()Ljava/lang/Class;" } : Jvm.MethodName)) ∈ lw_all := lw_g (lw_at lw_m11 188 rfl) rfl
theorem q2692 : (Jvm.Cond.castable "[Ljava/lang/Object;" "java/lang/Object") ∈ lw_tbl := lw_at lw_m11 191 rfl
theorem q2695 : (Jvm.Cond.castable "[Ljava/util/HashMap$Node;" "java/lang/Object") ∈ lw_tbl := lw_at lw_m11 194 rfl
set_option maxRecDepth 100000
theorem q2694 : (Jvm.Cond.castable "[Z" "java/lang/Object") ∈ lw_tbl := lw_at lw_m11 193 rfl
set_option maxRecDepth 100000
theorem q964 : (Jvm.Cond.interfaceMethod "java/lang/Comparable" "java/lang/Comparable" "compareTo" "(Ljava/lang/Object;)I") ∈ lw_tbl := lw_at lw_m4 143 rfl
set_option maxRecDepth 100000
theorem q965 : (Jvm.Cond.declares ({ cls := "java/lang/Comparable", name := "compareTo", desc := "(Ljava/lang/Object;)I" } : Jvm.MethodName)) ∈ lw_tbl := lw_at lw_m4 144 rfl
theorem q124 : (Jvm.Cond.initialized "java/lang/Integer$IntegerCache") ∈ lw_all := lw_g (lw_at lw_m1 23 rfl) rfl
set_option maxRecDepth 100000
theorem q761 : (Jvm.Cond.laysStatic "java/lang/Integer$IntegerCache" "high" "I") ∈ lw_tbl := lw_at lw_m3 180 rfl
theorem q763 : (Jvm.Cond.laysStatic "java/lang/Integer$IntegerCache" "cache" "[Ljava/lang/Integer;") ∈ lw_tbl := lw_at lw_m3 182 rfl
theorem q1951 : (Jvm.Cond.interfaceMethod "java/lang/Iterable" "java/lang/Iterable" "iterator" "()Ljava/util/Iterator;") ∈ lw_tbl := lw_at lw_m8 170 rfl
set_option maxRecDepth 100000
theorem q1952 : (Jvm.Cond.declares ({ cls := "java/lang/Iterable", name := "iterator", desc := "()Ljava/util/Iterator;" } : Jvm.MethodName)) ∈ lw_tbl := lw_at lw_m8 171 rfl
theorem q133 : (Jvm.Cond.initialized "java/lang/System") ∈ lw_all := lw_g (lw_at lw_m1 32 rfl) rfl
set_option maxRecDepth 100000
theorem q1199 : (Jvm.Cond.static ({ cls := "java/lang/System", name := "arraycopy", desc := "(Ljava/lang/Object;ILjava/lang/Object;II)V" } : Jvm.MethodName)) ∈ lw_all := lw_g (lw_at lw_m5 138 rfl) rfl
theorem q1200 : (Jvm.Cond.native ({ cls := "java/lang/System", name := "arraycopy", desc := "(Ljava/lang/Object;ILjava/lang/Object;II)V" } : Jvm.MethodName)) ∈ lw_all := lw_g (lw_at lw_m5 139 rfl) rfl
theorem q1999 : (Jvm.Cond.interfaceMethod "java/util/Iterator" "java/util/Iterator" "hasNext" "()Z") ∈ lw_tbl := lw_at lw_m8 218 rfl
set_option maxRecDepth 100000
theorem q2000 : (Jvm.Cond.declares ({ cls := "java/util/Iterator", name := "hasNext", desc := "()Z" } : Jvm.MethodName)) ∈ lw_tbl := lw_at lw_m8 219 rfl
theorem q2015 : (Jvm.Cond.interfaceMethod "java/util/Iterator" "java/util/Iterator" "next" "()Ljava/lang/Object;") ∈ lw_tbl := lw_at lw_m8 234 rfl
theorem q2016 : (Jvm.Cond.declares ({ cls := "java/util/Iterator", name := "next", desc := "()Ljava/lang/Object;" } : Jvm.MethodName)) ∈ lw_tbl := lw_at lw_m8 235 rfl
theorem q840 : (Jvm.Cond.interfaceMethod "jdk/internal/access/JavaLangAccess" "jdk/internal/access/JavaLangAccess" "getUTF16Char" "([BI)C") ∈ lw_tbl := lw_at lw_m4 19 rfl
set_option maxRecDepth 100000
theorem q841 : (Jvm.Cond.declares ({ cls := "jdk/internal/access/JavaLangAccess", name := "getUTF16Char", desc := "([BI)C" } : Jvm.MethodName)) ∈ lw_tbl := lw_at lw_m4 20 rfl
theorem q128 : (Jvm.Cond.initialized "jdk/internal/misc/UnsafeConstants") ∈ lw_all := lw_g (lw_at lw_m1 27 rfl) rfl
set_option maxRecDepth 100000
theorem q1038 : (Jvm.Cond.laysStatic "jdk/internal/misc/UnsafeConstants" "BIG_ENDIAN" "Z") ∈ lw_tbl := lw_at lw_m4 217 rfl
theorem q214 : (Jvm.Cond.arrayClass Jvm.ClassFile.FieldType.int) ∈ lw_all := lw_g (lw_at lw_m1 113 rfl) rfl
set_option maxRecDepth 100000
theorem q234 : (Jvm.Cond.arrayOver (Jvm.ClassFile.FieldType.object "java/lang/Object")) ∈ lw_tbl := lw_at lw_m1 133 rfl
theorem q252 : (Jvm.Cond.arrayClass Jvm.ClassFile.FieldType.byte) ∈ lw_all := lw_g (lw_at lw_m1 151 rfl) rfl
theorem q253 : (Jvm.Cond.arrayClass Jvm.ClassFile.FieldType.boolean) ∈ lw_all := lw_g (lw_at lw_m1 152 rfl) rfl
theorem q1222 : (Jvm.Cond.arrayOver (Jvm.ClassFile.FieldType.object "java/util/HashMap$Node")) ∈ lw_tbl := lw_at lw_m5 161 rfl
theorem q2231 : (Jvm.Cond.arrayClass Jvm.ClassFile.FieldType.long) ∈ lw_all := lw_g (lw_at lw_m9 210 rfl) rfl
theorem q2697 : (Jvm.Cond.arrayClass Jvm.ClassFile.FieldType.char) ∈ lw_all := lw_g (lw_at lw_m11 196 rfl) rfl
theorem q2698 : (Jvm.Cond.arrayClass Jvm.ClassFile.FieldType.short) ∈ lw_all := lw_g (lw_at lw_m11 197 rfl) rfl
