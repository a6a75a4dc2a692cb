/-! SevenTableLaw -/
set_option maxRecDepth 100000
def RX0 : String := "SevenTableLaw"
abbrev cX0_hand : ByteArray := method_3_code
def yX0_hand : MethodName := ⟨RX0, "hand", "(LSevenTable;II[J)I"⟩
def dkwX0_hand_0 : List UInt8 := [45, 3, 42, 27, 28, 182, 0, 7, 133, 80, 167, 0, 7, 58, 4, 4, 172, 3, 172]
abbrev dktX0_hand_0 : List UInt8 := dkwX0_hand_0 ++ []
theorem dksX0_hand_0 : cX0_hand.data.toList.drop 0 = dktX0_hand_0 := by decide +kernel
theorem dX0_hand_0 : decode cX0_hand 0 = .ok (.aload_n 3, 1) := dk_45 (dk_at dksX0_hand_0 0 rfl rfl)
theorem dX0_hand_1 : decode cX0_hand 1 = .ok (.iconst 0, 1) := dk_3 (dk_at dksX0_hand_0 1 rfl rfl)
theorem dX0_hand_2 : decode cX0_hand 2 = .ok (.aload_n 0, 1) := dk_42 (dk_at dksX0_hand_0 2 rfl rfl)
theorem dX0_hand_3 : decode cX0_hand 3 = .ok (.iload_n 1, 1) := dk_27 (dk_at dksX0_hand_0 3 rfl rfl)
theorem dX0_hand_4 : decode cX0_hand 4 = .ok (.iload_n 2, 1) := dk_28 (dk_at dksX0_hand_0 4 rfl rfl)
theorem dX0_hand_5 : decode cX0_hand 5 = .ok (.invokevirtual 7, 3) := dk_182 0 7 (dk_at dksX0_hand_0 5 rfl rfl)
theorem dX0_hand_8 : decode cX0_hand 8 = .ok (.i2l, 1) := dk_133 (dk_at dksX0_hand_0 8 rfl rfl)
theorem dX0_hand_9 : decode cX0_hand 9 = .ok (.lastore, 1) := dk_80 (dk_at dksX0_hand_0 9 rfl rfl)
theorem dX0_hand_10 : decode cX0_hand 10 = .ok (.goto 7, 3) := dk_167 0 7 (dk_at dksX0_hand_0 10 rfl rfl)
theorem dX0_hand_13 : decode cX0_hand 13 = .ok (.astore 4, 2) := dk_58 4 (dk_at dksX0_hand_0 13 rfl rfl)
theorem dX0_hand_15 : decode cX0_hand 15 = .ok (.iconst 1, 1) := dk_4 (dk_at dksX0_hand_0 15 rfl rfl)
theorem dX0_hand_16 : decode cX0_hand 16 = .ok (.ireturn, 1) := dk_172 (dk_at dksX0_hand_0 16 rfl rfl)
theorem dX0_hand_17 : decode cX0_hand 17 = .ok (.iconst 0, 1) := dk_3 (dk_at dksX0_hand_0 17 rfl rfl)
theorem dX0_hand_18 : decode cX0_hand 18 = .ok (.ireturn, 1) := dk_172 (dk_at dksX0_hand_0 18 rfl rfl)
abbrev cX0_odds : ByteArray := method_4_code
def yX0_odds : MethodName := ⟨RX0, "odds", "(LSevenTable;IIII[J)I"⟩
def dkwX0_odds_0 : List UInt8 := [25, 5, 3, 42, 27, 28, 29, 21, 4, 182, 0, 15, 80, 167, 0, 7, 58, 6, 4, 172, 3, 172]
abbrev dktX0_odds_0 : List UInt8 := dkwX0_odds_0 ++ []
theorem dksX0_odds_0 : cX0_odds.data.toList.drop 0 = dktX0_odds_0 := by decide +kernel
theorem dX0_odds_0 : decode cX0_odds 0 = .ok (.aload 5, 2) := dk_25 5 (dk_at dksX0_odds_0 0 rfl rfl)
theorem dX0_odds_2 : decode cX0_odds 2 = .ok (.iconst 0, 1) := dk_3 (dk_at dksX0_odds_0 2 rfl rfl)
theorem dX0_odds_3 : decode cX0_odds 3 = .ok (.aload_n 0, 1) := dk_42 (dk_at dksX0_odds_0 3 rfl rfl)
theorem dX0_odds_4 : decode cX0_odds 4 = .ok (.iload_n 1, 1) := dk_27 (dk_at dksX0_odds_0 4 rfl rfl)
theorem dX0_odds_5 : decode cX0_odds 5 = .ok (.iload_n 2, 1) := dk_28 (dk_at dksX0_odds_0 5 rfl rfl)
theorem dX0_odds_6 : decode cX0_odds 6 = .ok (.iload_n 3, 1) := dk_29 (dk_at dksX0_odds_0 6 rfl rfl)
theorem dX0_odds_7 : decode cX0_odds 7 = .ok (.iload 4, 2) := dk_21 4 (dk_at dksX0_odds_0 7 rfl rfl)
theorem dX0_odds_9 : decode cX0_odds 9 = .ok (.invokevirtual 15, 3) := dk_182 0 15 (dk_at dksX0_odds_0 9 rfl rfl)
theorem dX0_odds_12 : decode cX0_odds 12 = .ok (.lastore, 1) := dk_80 (dk_at dksX0_odds_0 12 rfl rfl)
theorem dX0_odds_13 : decode cX0_odds 13 = .ok (.goto 7, 3) := dk_167 0 7 (dk_at dksX0_odds_0 13 rfl rfl)
theorem dX0_odds_16 : decode cX0_odds 16 = .ok (.astore 6, 2) := dk_58 6 (dk_at dksX0_odds_0 16 rfl rfl)
theorem dX0_odds_18 : decode cX0_odds 18 = .ok (.iconst 1, 1) := dk_4 (dk_at dksX0_odds_0 18 rfl rfl)
theorem dX0_odds_19 : decode cX0_odds 19 = .ok (.ireturn, 1) := dk_172 (dk_at dksX0_odds_0 19 rfl rfl)
theorem dX0_odds_20 : decode cX0_odds 20 = .ok (.iconst 0, 1) := dk_3 (dk_at dksX0_odds_0 20 rfl rfl)
theorem dX0_odds_21 : decode cX0_odds 21 = .ok (.ireturn, 1) := dk_172 (dk_at dksX0_odds_0 21 rfl rfl)
abbrev cX0_next : ByteArray := method_5_code
def yX0_next : MethodName := ⟨RX0, "next", "(LSevenTable;III[J)I"⟩
def dkwX0_next_0 : List UInt8 := [25, 4, 3, 42, 27, 28, 29, 182, 0, 19, 80, 167, 0, 7, 58, 5, 4, 172, 3, 172]
abbrev dktX0_next_0 : List UInt8 := dkwX0_next_0 ++ []
theorem dksX0_next_0 : cX0_next.data.toList.drop 0 = dktX0_next_0 := by decide +kernel
theorem dX0_next_0 : decode cX0_next 0 = .ok (.aload 4, 2) := dk_25 4 (dk_at dksX0_next_0 0 rfl rfl)
theorem dX0_next_2 : decode cX0_next 2 = .ok (.iconst 0, 1) := dk_3 (dk_at dksX0_next_0 2 rfl rfl)
theorem dX0_next_3 : decode cX0_next 3 = .ok (.aload_n 0, 1) := dk_42 (dk_at dksX0_next_0 3 rfl rfl)
theorem dX0_next_4 : decode cX0_next 4 = .ok (.iload_n 1, 1) := dk_27 (dk_at dksX0_next_0 4 rfl rfl)
theorem dX0_next_5 : decode cX0_next 5 = .ok (.iload_n 2, 1) := dk_28 (dk_at dksX0_next_0 5 rfl rfl)
theorem dX0_next_6 : decode cX0_next 6 = .ok (.iload_n 3, 1) := dk_29 (dk_at dksX0_next_0 6 rfl rfl)
theorem dX0_next_7 : decode cX0_next 7 = .ok (.invokevirtual 19, 3) := dk_182 0 19 (dk_at dksX0_next_0 7 rfl rfl)
theorem dX0_next_10 : decode cX0_next 10 = .ok (.lastore, 1) := dk_80 (dk_at dksX0_next_0 10 rfl rfl)
theorem dX0_next_11 : decode cX0_next 11 = .ok (.goto 7, 3) := dk_167 0 7 (dk_at dksX0_next_0 11 rfl rfl)
theorem dX0_next_14 : decode cX0_next 14 = .ok (.astore 5, 2) := dk_58 5 (dk_at dksX0_next_0 14 rfl rfl)
theorem dX0_next_16 : decode cX0_next 16 = .ok (.iconst 1, 1) := dk_4 (dk_at dksX0_next_0 16 rfl rfl)
theorem dX0_next_17 : decode cX0_next 17 = .ok (.ireturn, 1) := dk_172 (dk_at dksX0_next_0 17 rfl rfl)
theorem dX0_next_18 : decode cX0_next 18 = .ok (.iconst 0, 1) := dk_3 (dk_at dksX0_next_0 18 rfl rfl)
theorem dX0_next_19 : decode cX0_next 19 = .ok (.ireturn, 1) := dk_172 (dk_at dksX0_next_0 19 rfl rfl)
theorem q117 : (Jvm.Cond.initialized "SevenTableLaw") ∈ lw_all := lw_g (lw_at lw_m1 0 rfl) rfl
theorem q158 : (Jvm.Cond.classLink "SevenTableLaw" (8 : Nat) "SevenTable") ∈ lw_all := lw_g (lw_at lw_m1 41 rfl) rfl
theorem q160 : (Jvm.Cond.methodLink "SevenTableLaw" (23 : Nat) ({ cls := "SevenTable", name := "<init>", desc := "()V" } : Jvm.MethodName)) ∈ lw_all := lw_g (lw_at lw_m1 43 rfl) rfl
theorem q583 : (Jvm.Cond.methodLink "SevenTableLaw" (27 : Nat) ({ cls := "SevenTable", name := "feed", desc := "(IIIII)I" } : Jvm.MethodName)) ∈ lw_all := lw_g (lw_at lw_m2 226 rfl) rfl
theorem q591 : (Jvm.Cond.methodLink "SevenTableLaw" (32 : Nat) ({ cls := "SevenTable", name := "end", desc := "(I)Z" } : Jvm.MethodName)) ∈ lw_all := lw_g (lw_at lw_m2 234 rfl) rfl
theorem q595 : (Jvm.Cond.methodLink "SevenTableLaw" (37 : Nat) ({ cls := "SevenTable", name := "table", desc := "()I" } : Jvm.MethodName)) ∈ lw_all := lw_g (lw_at lw_m2 238 rfl) rfl
theorem q1193 : (Jvm.Cond.methodLink "SevenTableLaw" (42 : Nat) ({ cls := "SevenTable", name := "fault", desc := "()I" } : Jvm.MethodName)) ∈ lw_all := lw_g (lw_at lw_m5 116 rfl) rfl
theorem q1197 : (Jvm.Cond.methodLink "SevenTableLaw" (55 : Nat) ({ cls := "SevenTable", name := "person", desc := "(II)I" } : Jvm.MethodName)) ∈ lw_all := lw_g (lw_at lw_m5 120 rfl) rfl
theorem q1215 : (Jvm.Cond.methodLink "SevenTableLaw" (59 : Nat) ({ cls := "SevenTable", name := "book", desc := "(I)I" } : Jvm.MethodName)) ∈ lw_all := lw_g (lw_at lw_m5 138 rfl) rfl
theorem q1223 : (Jvm.Cond.methodLink "SevenTableLaw" (64 : Nat) ({ cls := "SevenTable", name := "heap", desc := "(I)I" } : Jvm.MethodName)) ∈ lw_all := lw_g (lw_at lw_m5 146 rfl) rfl
theorem q1229 : (Jvm.Cond.methodLink "SevenTableLaw" (68 : Nat) ({ cls := "SevenTable", name := "now", desc := "(I)I" } : Jvm.MethodName)) ∈ lw_all := lw_g (lw_at lw_m5 152 rfl) rfl
theorem q1242 : (Jvm.Cond.methodLink "SevenTableLaw" (72 : Nat) ({ cls := "SevenTable", name := "why", desc := "(III)I" } : Jvm.MethodName)) ∈ lw_all := lw_g (lw_at lw_m5 165 rfl) rfl
theorem q1258 : (Jvm.Cond.methodLink "SevenTableLaw" (77 : Nat) ({ cls := "SevenTable", name := "ask", desc := "(IIII)I" } : Jvm.MethodName)) ∈ lw_all := lw_g (lw_at lw_m5 181 rfl) rfl
theorem q1295 : (Jvm.Cond.methodLink "SevenTableLaw" (82 : Nat) ({ cls := "SevenTable", name := "asked", desc := "(I)I" } : Jvm.MethodName)) ∈ lw_all := lw_g (lw_at lw_m5 218 rfl) rfl
theorem q1299 : (Jvm.Cond.methodLink "SevenTableLaw" (86 : Nat) ({ cls := "SevenTable", name := "undo", desc := "()I" } : Jvm.MethodName)) ∈ lw_all := lw_g (lw_at lw_m5 222 rfl) rfl
theorem q1303 : (Jvm.Cond.methodLink "SevenTableLaw" (90 : Nat) ({ cls := "SevenTable", name := "known", desc := "(II)I" } : Jvm.MethodName)) ∈ lw_all := lw_g (lw_at lw_m5 226 rfl) rfl
theorem q1307 : (Jvm.Cond.methodLink "SevenTableLaw" (94 : Nat) ({ cls := "SevenTable", name := "can", desc := "(II)I" } : Jvm.MethodName)) ∈ lw_all := lw_g (lw_at lw_m5 230 rfl) rfl
theorem q1312 : (Jvm.Cond.methodLink "SevenTableLaw" (106 : Nat) ({ cls := "SevenTable", name := "whom", desc := "(I)I" } : Jvm.MethodName)) ∈ lw_all := lw_g (lw_at lw_m5 235 rfl) rfl
theorem q1340 : (Jvm.Cond.methodLink "SevenTableLaw" (110 : Nat) ({ cls := "SevenTable", name := "sweep", desc := "(I)I" } : Jvm.MethodName)) ∈ lw_all := lw_g (lw_at lw_m6 23 rfl) rfl
theorem q1344 : (Jvm.Cond.methodLink "SevenTableLaw" (114 : Nat) ({ cls := "SevenTable", name := "swept", desc := "(I)I" } : Jvm.MethodName)) ∈ lw_all := lw_g (lw_at lw_m6 27 rfl) rfl
theorem q1348 : (Jvm.Cond.methodLink "SevenTableLaw" (118 : Nat) ({ cls := "SevenTable", name := "gains", desc := "(I)I" } : Jvm.MethodName)) ∈ lw_all := lw_g (lw_at lw_m6 31 rfl) rfl
theorem q1352 : (Jvm.Cond.methodLink "SevenTableLaw" (122 : Nat) ({ cls := "SevenTable", name := "open", desc := "()I" } : Jvm.MethodName)) ∈ lw_all := lw_g (lw_at lw_m6 35 rfl) rfl
theorem q1402 : (Jvm.Cond.methodLink "SevenTableLaw" (126 : Nat) ({ cls := "SevenTable", name := "first", desc := "()I" } : Jvm.MethodName)) ∈ lw_all := lw_g (lw_at lw_m6 85 rfl) rfl
theorem q1406 : (Jvm.Cond.methodLink "SevenTableLaw" (130 : Nat) ({ cls := "SevenTable", name := "bent", desc := "(II)I" } : Jvm.MethodName)) ∈ lw_all := lw_g (lw_at lw_m6 89 rfl) rfl
theorem q1451 : (Jvm.Cond.methodLink "SevenTableLaw" (134 : Nat) ({ cls := "SevenTable", name := "play", desc := "(I)I" } : Jvm.MethodName)) ∈ lw_all := lw_g (lw_at lw_m6 134 rfl) rfl
theorem q1462 : (Jvm.Cond.methodLink "SevenTableLaw" (138 : Nat) ({ cls := "SevenTable", name := "deal", desc := "(II)Z" } : Jvm.MethodName)) ∈ lw_all := lw_g (lw_at lw_m6 145 rfl) rfl
theorem q1479 : (Jvm.Cond.methodLink "SevenTableLaw" (143 : Nat) ({ cls := "SevenTable", name := "games", desc := "(IIII)I" } : Jvm.MethodName)) ∈ lw_all := lw_g (lw_at lw_m6 162 rfl) rfl
theorem q1488 : (Jvm.Cond.methodLink "SevenTableLaw" (147 : Nat) ({ cls := "SevenTable", name := "length", desc := "(IIII)I" } : Jvm.MethodName)) ∈ lw_all := lw_g (lw_at lw_m6 171 rfl) rfl
theorem q1492 : (Jvm.Cond.methodLink "SevenTableLaw" (151 : Nat) ({ cls := "SevenTable", name := "reply", desc := "(III)I" } : Jvm.MethodName)) ∈ lw_all := lw_g (lw_at lw_m6 175 rfl) rfl
theorem q1496 : (Jvm.Cond.methodLink "SevenTableLaw" (155 : Nat) ({ cls := "SevenTable", name := "leader", desc := "()I" } : Jvm.MethodName)) ∈ lw_all := lw_g (lw_at lw_m6 179 rfl) rfl
theorem q1500 : (Jvm.Cond.methodLink "SevenTableLaw" (159 : Nat) ({ cls := "SevenTable", name := "evening", desc := "(I)I" } : Jvm.MethodName)) ∈ lw_all := lw_g (lw_at lw_m6 183 rfl) rfl
theorem q1574 : (Jvm.Cond.methodLink "SevenTableLaw" (163 : Nat) ({ cls := "SevenTable", name := "heard", desc := "(I)I" } : Jvm.MethodName)) ∈ lw_all := lw_g (lw_at lw_m7 17 rfl) rfl
theorem q1578 : (Jvm.Cond.methodLink "SevenTableLaw" (167 : Nat) ({ cls := "SevenTable", name := "sentence", desc := "()I" } : Jvm.MethodName)) ∈ lw_all := lw_g (lw_at lw_m7 21 rfl) rfl
theorem q1726 : (Jvm.Cond.methodLink "SevenTableLaw" (171 : Nat) ({ cls := "SevenTable", name := "said", desc := "(I)I" } : Jvm.MethodName)) ∈ lw_all := lw_g (lw_at lw_m7 169 rfl) rfl
theorem q1755 : (Jvm.Cond.methodLink "SevenTableLaw" (175 : Nat) ({ cls := "SevenTable", name := "image", desc := "(I)Z" } : Jvm.MethodName)) ∈ lw_all := lw_g (lw_at lw_m7 198 rfl) rfl
theorem q1759 : (Jvm.Cond.methodLink "SevenTableLaw" (179 : Nat) ({ cls := "SevenTable", name := "restore", desc := "(I)Z" } : Jvm.MethodName)) ∈ lw_all := lw_g (lw_at lw_m7 202 rfl) rfl
theorem q1763 : (Jvm.Cond.methodLink "SevenTableLaw" (183 : Nat) ({ cls := "SevenTable", name := "count", desc := "(I)I" } : Jvm.MethodName)) ∈ lw_all := lw_g (lw_at lw_m7 206 rfl) rfl
theorem q1767 : (Jvm.Cond.methodLink "SevenTableLaw" (46 : Nat) ({ cls := "SevenTableLaw", name := "hand", desc := "(LSevenTable;II[J)I" } : Jvm.MethodName)) ∈ lw_all := lw_g (lw_at lw_m7 210 rfl) rfl
theorem q1768 : (Jvm.Cond.static ({ cls := "SevenTableLaw", name := "hand", desc := "(LSevenTable;II[J)I" } : Jvm.MethodName)) ∈ lw_all := lw_g (lw_at lw_m7 211 rfl) rfl
theorem q1769 : (Jvm.Cond.codeWith ({ cls := "SevenTableLaw", name := "hand", desc := "(LSevenTable;II[J)I" } : Jvm.MethodName) method_3_code (5 : Nat) (Option.some Jvm.ClassFile.FieldType.int) [((0 : Nat), (10 : Nat), (13 : Nat), (13 : Nat))]) ∈ lw_all := lw_g (lw_at lw_m7 212 rfl) rfl
theorem q1770 : (Jvm.Cond.classLink "SevenTableLaw" (13 : Nat) "java/util/NoSuchElementException") ∈ lw_all := lw_g (lw_at lw_m7 213 rfl) rfl
theorem q1771 : (Jvm.Cond.methodLink "SevenTableLaw" (7 : Nat) ({ cls := "SevenTable", name := "hand", desc := "(II)I" } : Jvm.MethodName)) ∈ lw_all := lw_g (lw_at lw_m7 214 rfl) rfl
theorem q1798 : (Jvm.Cond.methodLink "SevenTableLaw" (98 : Nat) ({ cls := "SevenTableLaw", name := "odds", desc := "(LSevenTable;IIII[J)I" } : Jvm.MethodName)) ∈ lw_all := lw_g (lw_at lw_m8 1 rfl) rfl
theorem q1799 : (Jvm.Cond.static ({ cls := "SevenTableLaw", name := "odds", desc := "(LSevenTable;IIII[J)I" } : Jvm.MethodName)) ∈ lw_all := lw_g (lw_at lw_m8 2 rfl) rfl
theorem q1800 : (Jvm.Cond.codeWith ({ cls := "SevenTableLaw", name := "odds", desc := "(LSevenTable;IIII[J)I" } : Jvm.MethodName) method_4_code (7 : Nat) (Option.some Jvm.ClassFile.FieldType.int) [((0 : Nat), (13 : Nat), (16 : Nat), (13 : Nat))]) ∈ lw_all := lw_g (lw_at lw_m8 3 rfl) rfl
theorem q1801 : (Jvm.Cond.methodLink "SevenTableLaw" (15 : Nat) ({ cls := "SevenTable", name := "odds", desc := "(IIII)J" } : Jvm.MethodName)) ∈ lw_all := lw_g (lw_at lw_m8 4 rfl) rfl
theorem q1811 : (Jvm.Cond.methodLink "SevenTableLaw" (102 : Nat) ({ cls := "SevenTableLaw", name := "next", desc := "(LSevenTable;III[J)I" } : Jvm.MethodName)) ∈ lw_all := lw_g (lw_at lw_m8 14 rfl) rfl
theorem q1812 : (Jvm.Cond.static ({ cls := "SevenTableLaw", name := "next", desc := "(LSevenTable;III[J)I" } : Jvm.MethodName)) ∈ lw_all := lw_g (lw_at lw_m8 15 rfl) rfl
theorem q1813 : (Jvm.Cond.codeWith ({ cls := "SevenTableLaw", name := "next", desc := "(LSevenTable;III[J)I" } : Jvm.MethodName) method_5_code (6 : Nat) (Option.some Jvm.ClassFile.FieldType.int) [((0 : Nat), (11 : Nat), (14 : Nat), (13 : Nat))]) ∈ lw_all := lw_g (lw_at lw_m8 16 rfl) rfl
theorem q1814 : (Jvm.Cond.methodLink "SevenTableLaw" (19 : Nat) ({ cls := "SevenTable", name := "next", desc := "(III)J" } : Jvm.MethodName)) ∈ lw_all := lw_g (lw_at lw_m8 17 rfl) rfl
theorem q1818 : (Jvm.Cond.methodLink "SevenTableLaw" (52 : Nat) ({ cls := "SevenTableModel", name := "thrown", desc := "()I" } : Jvm.MethodName)) ∈ lw_all := lw_g (lw_at lw_m8 21 rfl) rfl
theorem q1822 : (Jvm.Cond.methodLink "SevenTableLaw" (31 : Nat) ({ cls := "SevenTableModel", name := "feed", desc := "(IIIII)I" } : Jvm.MethodName)) ∈ lw_all := lw_g (lw_at lw_m8 25 rfl) rfl
theorem q1831 : (Jvm.Cond.methodLink "SevenTableLaw" (36 : Nat) ({ cls := "SevenTableModel", name := "end", desc := "(I)Z" } : Jvm.MethodName)) ∈ lw_all := lw_g (lw_at lw_m8 34 rfl) rfl
theorem q1835 : (Jvm.Cond.classLink "SevenTableLaw" (24 : Nat) "SevenTableModel") ∈ lw_all := lw_g (lw_at lw_m8 38 rfl) rfl
theorem q1836 : (Jvm.Cond.methodLink "SevenTableLaw" (26 : Nat) ({ cls := "SevenTableModel", name := "<init>", desc := "()V" } : Jvm.MethodName)) ∈ lw_all := lw_g (lw_at lw_m8 39 rfl) rfl
theorem q2057 : (Jvm.Cond.methodLink "SevenTableLaw" (41 : Nat) ({ cls := "SevenTableModel", name := "table", desc := "()I" } : Jvm.MethodName)) ∈ lw_all := lw_g (lw_at lw_m9 20 rfl) rfl
theorem q2161 : (Jvm.Cond.methodLink "SevenTableLaw" (45 : Nat) ({ cls := "SevenTableModel", name := "fault", desc := "()I" } : Jvm.MethodName)) ∈ lw_all := lw_g (lw_at lw_m9 124 rfl) rfl
theorem q2165 : (Jvm.Cond.methodLink "SevenTableLaw" (51 : Nat) ({ cls := "SevenTableModel", name := "hand", desc := "(II)I" } : Jvm.MethodName)) ∈ lw_all := lw_g (lw_at lw_m9 128 rfl) rfl
theorem q2181 : (Jvm.Cond.methodLink "SevenTableLaw" (58 : Nat) ({ cls := "SevenTableModel", name := "person", desc := "(II)I" } : Jvm.MethodName)) ∈ lw_all := lw_g (lw_at lw_m9 144 rfl) rfl
theorem q2189 : (Jvm.Cond.methodLink "SevenTableLaw" (63 : Nat) ({ cls := "SevenTableModel", name := "book", desc := "(I)I" } : Jvm.MethodName)) ∈ lw_all := lw_g (lw_at lw_m9 152 rfl) rfl
theorem q2193 : (Jvm.Cond.methodLink "SevenTableLaw" (67 : Nat) ({ cls := "SevenTableModel", name := "heap", desc := "(I)I" } : Jvm.MethodName)) ∈ lw_all := lw_g (lw_at lw_m9 156 rfl) rfl
theorem q2197 : (Jvm.Cond.methodLink "SevenTableLaw" (71 : Nat) ({ cls := "SevenTableModel", name := "now", desc := "(I)I" } : Jvm.MethodName)) ∈ lw_all := lw_g (lw_at lw_m9 160 rfl) rfl
theorem q2205 : (Jvm.Cond.methodLink "SevenTableLaw" (76 : Nat) ({ cls := "SevenTableModel", name := "why", desc := "(III)I" } : Jvm.MethodName)) ∈ lw_all := lw_g (lw_at lw_m9 168 rfl) rfl
theorem q2217 : (Jvm.Cond.methodLink "SevenTableLaw" (81 : Nat) ({ cls := "SevenTableModel", name := "ask", desc := "(IIII)I" } : Jvm.MethodName)) ∈ lw_all := lw_g (lw_at lw_m9 180 rfl) rfl
theorem q2237 : (Jvm.Cond.methodLink "SevenTableLaw" (85 : Nat) ({ cls := "SevenTableModel", name := "asked", desc := "(I)I" } : Jvm.MethodName)) ∈ lw_all := lw_g (lw_at lw_m9 200 rfl) rfl
theorem q2241 : (Jvm.Cond.methodLink "SevenTableLaw" (89 : Nat) ({ cls := "SevenTableModel", name := "undo", desc := "()I" } : Jvm.MethodName)) ∈ lw_all := lw_g (lw_at lw_m9 204 rfl) rfl
theorem q2245 : (Jvm.Cond.methodLink "SevenTableLaw" (93 : Nat) ({ cls := "SevenTableModel", name := "known", desc := "(II)I" } : Jvm.MethodName)) ∈ lw_all := lw_g (lw_at lw_m9 208 rfl) rfl
theorem q2249 : (Jvm.Cond.methodLink "SevenTableLaw" (97 : Nat) ({ cls := "SevenTableModel", name := "can", desc := "(II)I" } : Jvm.MethodName)) ∈ lw_all := lw_g (lw_at lw_m9 212 rfl) rfl
theorem q2253 : (Jvm.Cond.methodLink "SevenTableLaw" (101 : Nat) ({ cls := "SevenTableModel", name := "odds", desc := "(IIII)J" } : Jvm.MethodName)) ∈ lw_all := lw_g (lw_at lw_m9 216 rfl) rfl
theorem q2274 : (Jvm.Cond.methodLink "SevenTableLaw" (105 : Nat) ({ cls := "SevenTableModel", name := "next", desc := "(III)J" } : Jvm.MethodName)) ∈ lw_all := lw_g (lw_at lw_m9 237 rfl) rfl
theorem q2278 : (Jvm.Cond.methodLink "SevenTableLaw" (109 : Nat) ({ cls := "SevenTableModel", name := "whom", desc := "(I)I" } : Jvm.MethodName)) ∈ lw_all := lw_g (lw_at lw_m10 1 rfl) rfl
theorem q2283 : (Jvm.Cond.methodLink "SevenTableLaw" (113 : Nat) ({ cls := "SevenTableModel", name := "sweep", desc := "(I)I" } : Jvm.MethodName)) ∈ lw_all := lw_g (lw_at lw_m10 6 rfl) rfl
theorem q2287 : (Jvm.Cond.methodLink "SevenTableLaw" (117 : Nat) ({ cls := "SevenTableModel", name := "swept", desc := "(I)I" } : Jvm.MethodName)) ∈ lw_all := lw_g (lw_at lw_m10 10 rfl) rfl
theorem q2291 : (Jvm.Cond.methodLink "SevenTableLaw" (121 : Nat) ({ cls := "SevenTableModel", name := "gains", desc := "(I)I" } : Jvm.MethodName)) ∈ lw_all := lw_g (lw_at lw_m10 14 rfl) rfl
theorem q2299 : (Jvm.Cond.methodLink "SevenTableLaw" (125 : Nat) ({ cls := "SevenTableModel", name := "open", desc := "()I" } : Jvm.MethodName)) ∈ lw_all := lw_g (lw_at lw_m10 22 rfl) rfl
theorem q2333 : (Jvm.Cond.methodLink "SevenTableLaw" (129 : Nat) ({ cls := "SevenTableModel", name := "first", desc := "()I" } : Jvm.MethodName)) ∈ lw_all := lw_g (lw_at lw_m10 56 rfl) rfl
theorem q2337 : (Jvm.Cond.methodLink "SevenTableLaw" (133 : Nat) ({ cls := "SevenTableModel", name := "bent", desc := "(II)I" } : Jvm.MethodName)) ∈ lw_all := lw_g (lw_at lw_m10 60 rfl) rfl
theorem q2349 : (Jvm.Cond.methodLink "SevenTableLaw" (137 : Nat) ({ cls := "SevenTableModel", name := "play", desc := "(I)I" } : Jvm.MethodName)) ∈ lw_all := lw_g (lw_at lw_m10 72 rfl) rfl
theorem q2361 : (Jvm.Cond.methodLink "SevenTableLaw" (142 : Nat) ({ cls := "SevenTableModel", name := "deal", desc := "(II)Z" } : Jvm.MethodName)) ∈ lw_all := lw_g (lw_at lw_m10 84 rfl) rfl
theorem q2374 : (Jvm.Cond.methodLink "SevenTableLaw" (146 : Nat) ({ cls := "SevenTableModel", name := "games", desc := "(IIII)I" } : Jvm.MethodName)) ∈ lw_all := lw_g (lw_at lw_m10 97 rfl) rfl
theorem q2394 : (Jvm.Cond.methodLink "SevenTableLaw" (150 : Nat) ({ cls := "SevenTableModel", name := "length", desc := "(IIII)I" } : Jvm.MethodName)) ∈ lw_all := lw_g (lw_at lw_m10 117 rfl) rfl
theorem q2398 : (Jvm.Cond.methodLink "SevenTableLaw" (154 : Nat) ({ cls := "SevenTableModel", name := "reply", desc := "(III)I" } : Jvm.MethodName)) ∈ lw_all := lw_g (lw_at lw_m10 121 rfl) rfl
theorem q2402 : (Jvm.Cond.methodLink "SevenTableLaw" (158 : Nat) ({ cls := "SevenTableModel", name := "leader", desc := "()I" } : Jvm.MethodName)) ∈ lw_all := lw_g (lw_at lw_m10 125 rfl) rfl
theorem q2406 : (Jvm.Cond.methodLink "SevenTableLaw" (162 : Nat) ({ cls := "SevenTableModel", name := "evening", desc := "(I)I" } : Jvm.MethodName)) ∈ lw_all := lw_g (lw_at lw_m10 129 rfl) rfl
theorem q2414 : (Jvm.Cond.methodLink "SevenTableLaw" (166 : Nat) ({ cls := "SevenTableModel", name := "heard", desc := "(I)I" } : Jvm.MethodName)) ∈ lw_all := lw_g (lw_at lw_m10 137 rfl) rfl
theorem q2418 : (Jvm.Cond.methodLink "SevenTableLaw" (170 : Nat) ({ cls := "SevenTableModel", name := "sentence", desc := "()I" } : Jvm.MethodName)) ∈ lw_all := lw_g (lw_at lw_m10 141 rfl) rfl
theorem q2446 : (Jvm.Cond.methodLink "SevenTableLaw" (174 : Nat) ({ cls := "SevenTableModel", name := "said", desc := "(I)I" } : Jvm.MethodName)) ∈ lw_all := lw_g (lw_at lw_m10 169 rfl) rfl
theorem q2458 : (Jvm.Cond.methodLink "SevenTableLaw" (178 : Nat) ({ cls := "SevenTableModel", name := "image", desc := "(I)Z" } : Jvm.MethodName)) ∈ lw_all := lw_g (lw_at lw_m10 181 rfl) rfl
theorem q2462 : (Jvm.Cond.methodLink "SevenTableLaw" (182 : Nat) ({ cls := "SevenTableModel", name := "restore", desc := "(I)Z" } : Jvm.MethodName)) ∈ lw_all := lw_g (lw_at lw_m10 185 rfl) rfl
theorem q2466 : (Jvm.Cond.methodLink "SevenTableLaw" (186 : Nat) ({ cls := "SevenTableModel", name := "count", desc := "(I)I" } : Jvm.MethodName)) ∈ lw_all := lw_g (lw_at lw_m10 189 rfl) rfl
/-! SevenTable$Table -/
set_option maxRecDepth 100000
def RX2 : String := "SevenTable$Table"
def TX2 : u_T := fun k => match k with
  | 0 => ("SevenTable$Table", "kinds", "I", false)
  | 1 => ("SevenTable$Table", "refill", "I", false)
  | 2 => ("SevenTable$Table", "lines", "I", false)
  | 3 => ("SevenTable$Table", "heaped", "I", false)
  | 4 => ("SevenTable$Table", "again", "Z", false)
  | 5 => ("SevenTable$Table", "names", "Ljava/util/ArrayList;", true)
  | 6 => ("SevenTable$Table", "hand", "[[I", true)
  | 7 => ("SevenTable$Table", "heap", "[I", true)
  | _ => ("SevenTable$Table", "cards", "[I", true)
def tyX2 : Nat → FieldType := fun k => match k with
  | 0 => .int
  | 1 => .int
  | 2 => .int
  | 3 => .int
  | 4 => .boolean
  | 5 => .object "java/util/ArrayList"
  | 6 => .array (.array .int)
  | 7 => .array .int
  | _ => .array .int
abbrev wsX20 : List Cond := u_ws RX2 TX2 9
theorem nmX2 : ∀ a, a < 9 → ∀ b, b < 9 → a ≠ b → (TX2 a).2.1 ≠ (TX2 b).2.1 := by decide +kernel
theorem tyX2_ok : ∀ k, k < 9 → parseFieldDescriptor (TX2 k).2.2.1 = some (tyX2 k) := by decide +kernel
abbrev cX2_init : ByteArray := prog_18_method_1_code
def yX2_init : MethodName := ⟨RX2, "<init>", "()V"⟩
def dkwX2_init_1 : List UInt8 := [181, 0, 20, 42, 16, 52, 188, 10, 181, 0, 23, 42, 16, 13, 188, 10, 181, 0, 27, 177]
abbrev dktX2_init_1 : List UInt8 := dkwX2_init_1 ++ []
def dkwX2_init_0 : List UInt8 := [42, 183, 0, 3, 42, 187, 0, 9, 89, 183, 0, 11, 181, 0, 12, 42, 16, 6, 16, 13, 197, 0, 18, 2]
abbrev dktX2_init_0 : List UInt8 := dkwX2_init_0 ++ dktX2_init_1
theorem dksX2_init_0 : cX2_init.data.toList.drop 0 = dktX2_init_0 := by decide +kernel
theorem dksX2_init_1 : cX2_init.data.toList.drop 24 = dktX2_init_1 := dk_seg dksX2_init_0 24 rfl rfl
theorem dX2_init_0 : decode cX2_init 0 = .ok (.aload_n 0, 1) := dk_42 (dk_at dksX2_init_0 0 rfl rfl)
theorem dX2_init_1 : decode cX2_init 1 = .ok (.invokespecial 3, 3) := dk_183 0 3 (dk_at dksX2_init_0 1 rfl rfl)
theorem dX2_init_4 : decode cX2_init 4 = .ok (.aload_n 0, 1) := dk_42 (dk_at dksX2_init_0 4 rfl rfl)
theorem dX2_init_5 : decode cX2_init 5 = .ok (.new 9, 3) := dk_187 0 9 (dk_at dksX2_init_0 5 rfl rfl)
theorem dX2_init_8 : decode cX2_init 8 = .ok (.dup, 1) := dk_89 (dk_at dksX2_init_0 8 rfl rfl)
theorem dX2_init_9 : decode cX2_init 9 = .ok (.invokespecial 11, 3) := dk_183 0 11 (dk_at dksX2_init_0 9 rfl rfl)
theorem dX2_init_12 : decode cX2_init 12 = .ok (.putfield 12, 3) := dk_181 0 12 (dk_at dksX2_init_0 12 rfl rfl)
theorem dX2_init_15 : decode cX2_init 15 = .ok (.aload_n 0, 1) := dk_42 (dk_at dksX2_init_0 15 rfl rfl)
theorem dX2_init_16 : decode cX2_init 16 = .ok (.bipush 6, 2) := dk_16 6 (dk_at dksX2_init_0 16 rfl rfl)
theorem dX2_init_18 : decode cX2_init 18 = .ok (.bipush 13, 2) := dk_16 13 (dk_at dksX2_init_0 18 rfl rfl)
theorem dX2_init_20 : decode cX2_init 20 = .ok (.multianewarray 18 2, 4) := by decide +kernel
theorem dX2_init_24 : decode cX2_init 24 = .ok (.putfield 20, 3) := dk_181 0 20 (dk_at dksX2_init_1 0 rfl rfl)
theorem dX2_init_27 : decode cX2_init 27 = .ok (.aload_n 0, 1) := dk_42 (dk_at dksX2_init_1 3 rfl rfl)
theorem dX2_init_28 : decode cX2_init 28 = .ok (.bipush 52, 2) := dk_16 52 (dk_at dksX2_init_1 4 rfl rfl)
theorem dX2_init_30 : decode cX2_init 30 = .ok (.newarray .int, 2) := dk_188_10 (dk_at dksX2_init_1 6 rfl rfl)
theorem dX2_init_32 : decode cX2_init 32 = .ok (.putfield 23, 3) := dk_181 0 23 (dk_at dksX2_init_1 8 rfl rfl)
theorem dX2_init_35 : decode cX2_init 35 = .ok (.aload_n 0, 1) := dk_42 (dk_at dksX2_init_1 11 rfl rfl)
theorem dX2_init_36 : decode cX2_init 36 = .ok (.bipush 13, 2) := dk_16 13 (dk_at dksX2_init_1 12 rfl rfl)
theorem dX2_init_38 : decode cX2_init 38 = .ok (.newarray .int, 2) := dk_188_10 (dk_at dksX2_init_1 14 rfl rfl)
theorem dX2_init_40 : decode cX2_init 40 = .ok (.putfield 27, 3) := dk_181 0 27 (dk_at dksX2_init_1 16 rfl rfl)
theorem dX2_init_43 : decode cX2_init 43 = .ok (.return_, 1) := dk_177 (dk_at dksX2_init_1 19 rfl rfl)
abbrev cX2_many : ByteArray := prog_18_method_2_code
def yX2_many : MethodName := ⟨RX2, "many", "()I"⟩
def dkwX2_many_0 : List UInt8 := [42, 180, 0, 12, 182, 0, 30, 172]
abbrev dktX2_many_0 : List UInt8 := dkwX2_many_0 ++ []
theorem dksX2_many_0 : cX2_many.data.toList.drop 0 = dktX2_many_0 := by decide +kernel
theorem dX2_many_0 : decode cX2_many 0 = .ok (.aload_n 0, 1) := dk_42 (dk_at dksX2_many_0 0 rfl rfl)
theorem dX2_many_1 : decode cX2_many 1 = .ok (.getfield 12, 3) := dk_180 0 12 (dk_at dksX2_many_0 1 rfl rfl)
theorem dX2_many_4 : decode cX2_many 4 = .ok (.invokevirtual 30, 3) := dk_182 0 30 (dk_at dksX2_many_0 4 rfl rfl)
theorem dX2_many_7 : decode cX2_many 7 = .ok (.ireturn, 1) := dk_172 (dk_at dksX2_many_0 7 rfl rfl)
abbrev cX2_isPerson : ByteArray := prog_18_method_3_code
def yX2_isPerson : MethodName := ⟨RX2, "isPerson", "(I)Z"⟩
def dkwX2_isPerson_0 : List UInt8 := [27, 3, 42, 182, 0, 34, 4, 100, 184, 0, 37, 172]
abbrev dktX2_isPerson_0 : List UInt8 := dkwX2_isPerson_0 ++ []
theorem dksX2_isPerson_0 : cX2_isPerson.data.toList.drop 0 = dktX2_isPerson_0 := by decide +kernel
theorem dX2_isPerson_0 : decode cX2_isPerson 0 = .ok (.iload_n 1, 1) := dk_27 (dk_at dksX2_isPerson_0 0 rfl rfl)
theorem dX2_isPerson_1 : decode cX2_isPerson 1 = .ok (.iconst 0, 1) := dk_3 (dk_at dksX2_isPerson_0 1 rfl rfl)
theorem dX2_isPerson_2 : decode cX2_isPerson 2 = .ok (.aload_n 0, 1) := dk_42 (dk_at dksX2_isPerson_0 2 rfl rfl)
theorem dX2_isPerson_3 : decode cX2_isPerson 3 = .ok (.invokevirtual 34, 3) := dk_182 0 34 (dk_at dksX2_isPerson_0 3 rfl rfl)
theorem dX2_isPerson_6 : decode cX2_isPerson 6 = .ok (.iconst 1, 1) := dk_4 (dk_at dksX2_isPerson_0 6 rfl rfl)
theorem dX2_isPerson_7 : decode cX2_isPerson 7 = .ok (.isub, 1) := dk_100 (dk_at dksX2_isPerson_0 7 rfl rfl)
theorem dX2_isPerson_8 : decode cX2_isPerson 8 = .ok (.invokestatic 37, 3) := dk_184 0 37 (dk_at dksX2_isPerson_0 8 rfl rfl)
theorem dX2_isPerson_11 : decode cX2_isPerson 11 = .ok (.ireturn, 1) := dk_172 (dk_at dksX2_isPerson_0 11 rfl rfl)
abbrev cX2_isKind : ByteArray := prog_18_method_4_code
def yX2_isKind : MethodName := ⟨RX2, "isKind", "(I)Z"⟩
def dkwX2_isKind_0 : List UInt8 := [27, 3, 42, 180, 0, 41, 4, 100, 184, 0, 37, 172]
abbrev dktX2_isKind_0 : List UInt8 := dkwX2_isKind_0 ++ []
theorem dksX2_isKind_0 : cX2_isKind.data.toList.drop 0 = dktX2_isKind_0 := by decide +kernel
theorem dX2_isKind_0 : decode cX2_isKind 0 = .ok (.iload_n 1, 1) := dk_27 (dk_at dksX2_isKind_0 0 rfl rfl)
theorem dX2_isKind_1 : decode cX2_isKind 1 = .ok (.iconst 0, 1) := dk_3 (dk_at dksX2_isKind_0 1 rfl rfl)
theorem dX2_isKind_2 : decode cX2_isKind 2 = .ok (.aload_n 0, 1) := dk_42 (dk_at dksX2_isKind_0 2 rfl rfl)
theorem dX2_isKind_3 : decode cX2_isKind 3 = .ok (.getfield 41, 3) := dk_180 0 41 (dk_at dksX2_isKind_0 3 rfl rfl)
theorem dX2_isKind_6 : decode cX2_isKind 6 = .ok (.iconst 1, 1) := dk_4 (dk_at dksX2_isKind_0 6 rfl rfl)
theorem dX2_isKind_7 : decode cX2_isKind 7 = .ok (.isub, 1) := dk_100 (dk_at dksX2_isKind_0 7 rfl rfl)
theorem dX2_isKind_8 : decode cX2_isKind 8 = .ok (.invokestatic 37, 3) := dk_184 0 37 (dk_at dksX2_isKind_0 8 rfl rfl)
theorem dX2_isKind_11 : decode cX2_isKind 11 = .ok (.ireturn, 1) := dk_172 (dk_at dksX2_isKind_0 11 rfl rfl)
theorem q119 : (Jvm.Cond.initialized "SevenTable$Table") ∈ lw_all := lw_g (lw_at lw_m1 2 rfl) rfl
theorem q167 : (Jvm.Cond.instantiable "SevenTable$Table" (9 : Nat)) ∈ lw_all := lw_g (lw_at lw_m1 50 rfl) rfl
theorem q169 : (Jvm.Cond.instanceMethod ({ cls := "SevenTable$Table", name := "<init>", desc := "()V" } : Jvm.MethodName)) ∈ lw_all := lw_g (lw_at lw_m1 52 rfl) rfl
theorem q170 : (Jvm.Cond.code ({ cls := "SevenTable$Table", name := "<init>", desc := "()V" } : Jvm.MethodName) prog_18_method_1_code (1 : Nat) (Option.none : Option Jvm.ClassFile.FieldType)) ∈ lw_all := lw_g (lw_at lw_m1 53 rfl) rfl
theorem q171 : (Jvm.Cond.methodLink "SevenTable$Table" (3 : Nat) ({ cls := "java/lang/Object", name := "<init>", desc := "()V" } : Jvm.MethodName)) ∈ lw_all := lw_g (lw_at lw_m1 54 rfl) rfl
theorem q172 : (Jvm.Cond.classLink "SevenTable$Table" (9 : Nat) "java/util/ArrayList") ∈ lw_all := lw_g (lw_at lw_m1 55 rfl) rfl
theorem q174 : (Jvm.Cond.methodLink "SevenTable$Table" (11 : Nat) ({ cls := "java/util/ArrayList", name := "<init>", desc := "()V" } : Jvm.MethodName)) ∈ lw_all := lw_g (lw_at lw_m1 57 rfl) rfl
theorem q199 : (Jvm.Cond.classLink "SevenTable$Table" (18 : Nat) "[[I") ∈ lw_all := lw_g (lw_at lw_m1 82 rfl) rfl
theorem q202 : (Jvm.Cond.fieldLink "SevenTable$Table" (41 : Nat) "SevenTable$Table" "kinds" "I") ∈ lw_all := lw_g (lw_at lw_m1 85 rfl) rfl
theorem q219 : (Jvm.Cond.fieldLink "SevenTable$Table" (12 : Nat) "SevenTable$Table" "names" "Ljava/util/ArrayList;") ∈ lw_all := lw_g (lw_at lw_m1 102 rfl) rfl
theorem q223 : (Jvm.Cond.fieldLink "SevenTable$Table" (20 : Nat) "SevenTable$Table" "hand" "[[I") ∈ lw_all := lw_g (lw_at lw_m1 106 rfl) rfl
theorem q226 : (Jvm.Cond.fieldLink "SevenTable$Table" (23 : Nat) "SevenTable$Table" "heap" "[I") ∈ lw_all := lw_g (lw_at lw_m1 109 rfl) rfl
theorem q229 : (Jvm.Cond.fieldLink "SevenTable$Table" (27 : Nat) "SevenTable$Table" "cards" "[I") ∈ lw_all := lw_g (lw_at lw_m1 112 rfl) rfl
theorem q232 : (Jvm.Cond.lays "SevenTable$Table" "SevenTable$Table" "kinds" "I") ∈ lw_all := lw_g (lw_at lw_m1 115 rfl) rfl
theorem q233 : (Jvm.Cond.soleField "SevenTable$Table" "kinds") ∈ lw_all := lw_g (lw_at lw_m1 116 rfl) rfl
theorem q234 : (Jvm.Cond.lays "SevenTable$Table" "SevenTable$Table" "refill" "I") ∈ lw_all := lw_g (lw_at lw_m1 117 rfl) rfl
theorem q235 : (Jvm.Cond.soleField "SevenTable$Table" "refill") ∈ lw_all := lw_g (lw_at lw_m1 118 rfl) rfl
theorem q236 : (Jvm.Cond.lays "SevenTable$Table" "SevenTable$Table" "lines" "I") ∈ lw_all := lw_g (lw_at lw_m1 119 rfl) rfl
theorem q237 : (Jvm.Cond.soleField "SevenTable$Table" "lines") ∈ lw_all := lw_g (lw_at lw_m1 120 rfl) rfl
theorem q238 : (Jvm.Cond.lays "SevenTable$Table" "SevenTable$Table" "heaped" "I") ∈ lw_all := lw_g (lw_at lw_m1 121 rfl) rfl
theorem q239 : (Jvm.Cond.soleField "SevenTable$Table" "heaped") ∈ lw_all := lw_g (lw_at lw_m1 122 rfl) rfl
theorem q240 : (Jvm.Cond.lays "SevenTable$Table" "SevenTable$Table" "again" "Z") ∈ lw_all := lw_g (lw_at lw_m1 123 rfl) rfl
theorem q241 : (Jvm.Cond.soleField "SevenTable$Table" "again") ∈ lw_all := lw_g (lw_at lw_m1 124 rfl) rfl
theorem q242 : (Jvm.Cond.laysFinal "SevenTable$Table" "SevenTable$Table" "names" "Ljava/util/ArrayList;") ∈ lw_all := lw_g (lw_at lw_m1 125 rfl) rfl
theorem q243 : (Jvm.Cond.soleField "SevenTable$Table" "names") ∈ lw_all := lw_g (lw_at lw_m1 126 rfl) rfl
theorem q244 : (Jvm.Cond.laysFinal "SevenTable$Table" "SevenTable$Table" "hand" "[[I") ∈ lw_all := lw_g (lw_at lw_m1 127 rfl) rfl
theorem q245 : (Jvm.Cond.soleField "SevenTable$Table" "hand") ∈ lw_all := lw_g (lw_at lw_m1 128 rfl) rfl
theorem q246 : (Jvm.Cond.laysFinal "SevenTable$Table" "SevenTable$Table" "heap" "[I") ∈ lw_all := lw_g (lw_at lw_m1 129 rfl) rfl
theorem q247 : (Jvm.Cond.soleField "SevenTable$Table" "heap") ∈ lw_all := lw_g (lw_at lw_m1 130 rfl) rfl
theorem q248 : (Jvm.Cond.laysFinal "SevenTable$Table" "SevenTable$Table" "cards" "[I") ∈ lw_all := lw_g (lw_at lw_m1 131 rfl) rfl
theorem q249 : (Jvm.Cond.soleField "SevenTable$Table" "cards") ∈ lw_all := lw_g (lw_at lw_m1 132 rfl) rfl
theorem q250 : (Jvm.Cond.superclass "SevenTable$Table" "java/lang/Object") ∈ lw_all := lw_g (lw_at lw_m1 133 rfl) rfl
theorem q368 : (Jvm.Cond.instanceMethod ({ cls := "SevenTable$Table", name := "many", desc := "()I" } : Jvm.MethodName)) ∈ lw_all := lw_g (lw_at lw_m2 11 rfl) rfl
theorem q369 : (Jvm.Cond.selects "SevenTable$Table" ({ cls := "SevenTable$Table", name := "many", desc := "()I" } : Jvm.MethodName) ({ cls := "SevenTable$Table", name := "many", desc := "()I" } : Jvm.MethodName)) ∈ lw_all := lw_g (lw_at lw_m2 12 rfl) rfl
theorem q370 : (Jvm.Cond.code ({ cls := "SevenTable$Table", name := "many", desc := "()I" } : Jvm.MethodName) prog_18_method_2_code (1 : Nat) (Option.some Jvm.ClassFile.FieldType.int)) ∈ lw_all := lw_g (lw_at lw_m2 13 rfl) rfl
theorem q371 : (Jvm.Cond.methodLink "SevenTable$Table" (30 : Nat) ({ cls := "java/util/ArrayList", name := "size", desc := "()I" } : Jvm.MethodName)) ∈ lw_all := lw_g (lw_at lw_m2 14 rfl) rfl
theorem q1092 : (Jvm.Cond.selects "SevenTable$Table" ({ cls := "java/lang/Object", name := "equals", desc := "(Ljava/lang/Object;)Z" } : Jvm.MethodName) ({ cls := "java/lang/Object", name := "equals", desc := "(Ljava/lang/Object;)Z" } : Jvm.MethodName)) ∈ lw_all := lw_g (lw_at lw_m5 15 rfl) rfl
theorem q1137 : (Jvm.Cond.selects "SevenTable$Table" ({ cls := "java/lang/Object", name := "getClass", desc := "()Ljava/lang/Class;" } : Jvm.MethodName) ({ cls := "java/lang/Object", name := "getClass", desc := "()Ljava/lang/Class;" } : Jvm.MethodName)) ∈ lw_all := lw_g (lw_at lw_m5 60 rfl) rfl
theorem q1202 : (Jvm.Cond.instanceMethod ({ cls := "SevenTable$Table", name := "isPerson", desc := "(I)Z" } : Jvm.MethodName)) ∈ lw_all := lw_g (lw_at lw_m5 125 rfl) rfl
theorem q1203 : (Jvm.Cond.selects "SevenTable$Table" ({ cls := "SevenTable$Table", name := "isPerson", desc := "(I)Z" } : Jvm.MethodName) ({ cls := "SevenTable$Table", name := "isPerson", desc := "(I)Z" } : Jvm.MethodName)) ∈ lw_all := lw_g (lw_at lw_m5 126 rfl) rfl
theorem q1204 : (Jvm.Cond.code ({ cls := "SevenTable$Table", name := "isPerson", desc := "(I)Z" } : Jvm.MethodName) prog_18_method_3_code (2 : Nat) (Option.some Jvm.ClassFile.FieldType.boolean)) ∈ lw_all := lw_g (lw_at lw_m5 127 rfl) rfl
theorem q1205 : (Jvm.Cond.methodLink "SevenTable$Table" (34 : Nat) ({ cls := "SevenTable$Table", name := "many", desc := "()I" } : Jvm.MethodName)) ∈ lw_all := lw_g (lw_at lw_m5 128 rfl) rfl
theorem q1206 : (Jvm.Cond.methodLinkNest "SevenTable$Table" (37 : Nat) ({ cls := "SevenTable", name := "isIn", desc := "(III)Z" } : Jvm.MethodName) "SevenTable") ∈ lw_tbl := lw_at lw_m5 129 rfl
theorem q1220 : (Jvm.Cond.instanceMethod ({ cls := "SevenTable$Table", name := "isKind", desc := "(I)Z" } : Jvm.MethodName)) ∈ lw_all := lw_g (lw_at lw_m5 143 rfl) rfl
theorem q1221 : (Jvm.Cond.selects "SevenTable$Table" ({ cls := "SevenTable$Table", name := "isKind", desc := "(I)Z" } : Jvm.MethodName) ({ cls := "SevenTable$Table", name := "isKind", desc := "(I)Z" } : Jvm.MethodName)) ∈ lw_all := lw_g (lw_at lw_m5 144 rfl) rfl
theorem q1222 : (Jvm.Cond.code ({ cls := "SevenTable$Table", name := "isKind", desc := "(I)Z" } : Jvm.MethodName) prog_18_method_4_code (2 : Nat) (Option.some Jvm.ClassFile.FieldType.boolean)) ∈ lw_all := lw_g (lw_at lw_m5 145 rfl) rfl
theorem q2497 : (Jvm.Cond.castable "SevenTable$Table" "java/lang/Object") ∈ lw_tbl := lw_at lw_m10 220 rfl
theorem in_X2 : ∀ w ∈ wsX20, w ∈ lw_all := lw_in wsX20 [232, 234, 236, 238, 240, 242, 244, 246, 248] (by decide +kernel) (by decide +kernel)
/-! SevenTable$Bent -/
set_option maxRecDepth 100000
def RX5 : String := "SevenTable$Bent"
abbrev cX5_init : ByteArray := prog_2_method_1_code
def yX5_init : MethodName := ⟨RX5, "<init>", "()V"⟩
theorem dX5_init_0 : decode cX5_init 0 = .ok (.aload_n 0, 1) := by decide +kernel
theorem dX5_init_1 : decode cX5_init 1 = .ok (.invokespecial 3, 3) := by decide +kernel
theorem dX5_init_4 : decode cX5_init 4 = .ok (.return_, 1) := by decide +kernel
abbrev cX5_kinds : ByteArray := prog_2_method_5_code
def yX5_kinds : MethodName := ⟨RX5, "kinds", "(LSevenTable$Game;I)I"⟩
def dkwX5_kinds_1 : List UInt8 := [120, 128, 61, 132, 3, 1, 167, 255, 230, 28, 172]
abbrev dktX5_kinds_1 : List UInt8 := dkwX5_kinds_1 ++ []
def dkwX5_kinds_0 : List UInt8 := [3, 61, 3, 62, 29, 16, 13, 162, 0, 26, 42, 180, 0, 33, 27, 50, 29, 46, 158, 0, 9, 28, 4, 29]
abbrev dktX5_kinds_0 : List UInt8 := dkwX5_kinds_0 ++ dktX5_kinds_1
theorem dksX5_kinds_0 : cX5_kinds.data.toList.drop 0 = dktX5_kinds_0 := by decide +kernel
theorem dksX5_kinds_1 : cX5_kinds.data.toList.drop 24 = dktX5_kinds_1 := dk_seg dksX5_kinds_0 24 rfl rfl
theorem dX5_kinds_0 : decode cX5_kinds 0 = .ok (.iconst 0, 1) := dk_3 (dk_at dksX5_kinds_0 0 rfl rfl)
theorem dX5_kinds_1 : decode cX5_kinds 1 = .ok (.istore_n 2, 1) := dk_61 (dk_at dksX5_kinds_0 1 rfl rfl)
theorem dX5_kinds_2 : decode cX5_kinds 2 = .ok (.iconst 0, 1) := dk_3 (dk_at dksX5_kinds_0 2 rfl rfl)
theorem dX5_kinds_3 : decode cX5_kinds 3 = .ok (.istore_n 3, 1) := dk_62 (dk_at dksX5_kinds_0 3 rfl rfl)
theorem dX5_kinds_4 : decode cX5_kinds 4 = .ok (.iload_n 3, 1) := dk_29 (dk_at dksX5_kinds_0 4 rfl rfl)
theorem dX5_kinds_5 : decode cX5_kinds 5 = .ok (.bipush 13, 2) := dk_16 13 (dk_at dksX5_kinds_0 5 rfl rfl)
theorem dX5_kinds_7 : decode cX5_kinds 7 = .ok (.if_icmp .ge 26, 3) := dk_162 0 26 (dk_at dksX5_kinds_0 7 rfl rfl)
theorem dX5_kinds_10 : decode cX5_kinds 10 = .ok (.aload_n 0, 1) := dk_42 (dk_at dksX5_kinds_0 10 rfl rfl)
theorem dX5_kinds_11 : decode cX5_kinds 11 = .ok (.getfield 33, 3) := dk_180 0 33 (dk_at dksX5_kinds_0 11 rfl rfl)
theorem dX5_kinds_14 : decode cX5_kinds 14 = .ok (.iload_n 1, 1) := dk_27 (dk_at dksX5_kinds_0 14 rfl rfl)
theorem dX5_kinds_15 : decode cX5_kinds 15 = .ok (.aaload, 1) := dk_50 (dk_at dksX5_kinds_0 15 rfl rfl)
theorem dX5_kinds_16 : decode cX5_kinds 16 = .ok (.iload_n 3, 1) := dk_29 (dk_at dksX5_kinds_0 16 rfl rfl)
theorem dX5_kinds_17 : decode cX5_kinds 17 = .ok (.iaload, 1) := dk_46 (dk_at dksX5_kinds_0 17 rfl rfl)
theorem dX5_kinds_18 : decode cX5_kinds 18 = .ok (.ifCond .le 9, 3) := dk_158 0 9 (dk_at dksX5_kinds_0 18 rfl rfl)
theorem dX5_kinds_21 : decode cX5_kinds 21 = .ok (.iload_n 2, 1) := dk_28 (dk_at dksX5_kinds_0 21 rfl rfl)
theorem dX5_kinds_22 : decode cX5_kinds 22 = .ok (.iconst 1, 1) := dk_4 (dk_at dksX5_kinds_0 22 rfl rfl)
theorem dX5_kinds_23 : decode cX5_kinds 23 = .ok (.iload_n 3, 1) := dk_29 (dk_at dksX5_kinds_0 23 rfl rfl)
theorem dX5_kinds_24 : decode cX5_kinds 24 = .ok (.ishl, 1) := dk_120 (dk_at dksX5_kinds_1 0 rfl rfl)
theorem dX5_kinds_25 : decode cX5_kinds 25 = .ok (.ior, 1) := dk_128 (dk_at dksX5_kinds_1 1 rfl rfl)
theorem dX5_kinds_26 : decode cX5_kinds 26 = .ok (.istore_n 2, 1) := dk_61 (dk_at dksX5_kinds_1 2 rfl rfl)
theorem dX5_kinds_27 : decode cX5_kinds 27 = .ok (.iinc 3 1, 3) := dk_132 3 1 (dk_at dksX5_kinds_1 3 rfl rfl)
theorem dX5_kinds_30 : decode cX5_kinds 30 = .ok (.goto (-26), 3) := dk_167 255 230 (dk_at dksX5_kinds_1 6 rfl rfl)
theorem dX5_kinds_33 : decode cX5_kinds 33 = .ok (.iload_n 2, 1) := dk_28 (dk_at dksX5_kinds_1 9 rfl rfl)
theorem dX5_kinds_34 : decode cX5_kinds 34 = .ok (.ireturn, 1) := dk_172 (dk_at dksX5_kinds_1 10 rfl rfl)
abbrev cX5_least : ByteArray := prog_2_method_3_code
def yX5_least : MethodName := ⟨RX5, "least", "(LSevenTable$Game;I)I"⟩
def dkwX5_least_0 : List UInt8 := [42, 27, 42, 27, 184, 0, 9, 184, 0, 15, 184, 0, 21, 172]
abbrev dktX5_least_0 : List UInt8 := dkwX5_least_0 ++ []
theorem dksX5_least_0 : cX5_least.data.toList.drop 0 = dktX5_least_0 := by decide +kernel
theorem dX5_least_0 : decode cX5_least 0 = .ok (.aload_n 0, 1) := dk_42 (dk_at dksX5_least_0 0 rfl rfl)
theorem dX5_least_1 : decode cX5_least 1 = .ok (.iload_n 1, 1) := dk_27 (dk_at dksX5_least_0 1 rfl rfl)
theorem dX5_least_2 : decode cX5_least 2 = .ok (.aload_n 0, 1) := dk_42 (dk_at dksX5_least_0 2 rfl rfl)
theorem dX5_least_3 : decode cX5_least 3 = .ok (.iload_n 1, 1) := dk_27 (dk_at dksX5_least_0 3 rfl rfl)
theorem dX5_least_4 : decode cX5_least 4 = .ok (.invokestatic 9, 3) := dk_184 0 9 (dk_at dksX5_least_0 4 rfl rfl)
theorem dX5_least_7 : decode cX5_least 7 = .ok (.invokestatic 15, 3) := dk_184 0 15 (dk_at dksX5_least_0 7 rfl rfl)
theorem dX5_least_10 : decode cX5_least 10 = .ok (.invokestatic 21, 3) := dk_184 0 21 (dk_at dksX5_least_0 10 rfl rfl)
theorem dX5_least_13 : decode cX5_least 13 = .ok (.ireturn, 1) := dk_172 (dk_at dksX5_least_0 13 rfl rfl)
abbrev cX5_ask : ByteArray := prog_2_method_4_code
def yX5_ask : MethodName := ⟨RX5, "ask", "(LSevenTable$Game;II)I"⟩
def dkwX5_ask_1 : List UInt8 := [96, 172, 42, 29, 182, 0, 25, 62, 167, 255, 230, 16, 100, 42, 27, 182, 0, 25, 104, 28, 96, 172]
abbrev dktX5_ask_1 : List UInt8 := dkwX5_ask_1 ++ []
def dkwX5_ask_0 : List UInt8 := [42, 27, 182, 0, 25, 62, 29, 27, 159, 0, 27, 42, 29, 182, 0, 30, 158, 0, 10, 16, 100, 29, 104, 28]
abbrev dktX5_ask_0 : List UInt8 := dkwX5_ask_0 ++ dktX5_ask_1
theorem dksX5_ask_0 : cX5_ask.data.toList.drop 0 = dktX5_ask_0 := by decide +kernel
theorem dksX5_ask_1 : cX5_ask.data.toList.drop 24 = dktX5_ask_1 := dk_seg dksX5_ask_0 24 rfl rfl
theorem dX5_ask_0 : decode cX5_ask 0 = .ok (.aload_n 0, 1) := dk_42 (dk_at dksX5_ask_0 0 rfl rfl)
theorem dX5_ask_1 : decode cX5_ask 1 = .ok (.iload_n 1, 1) := dk_27 (dk_at dksX5_ask_0 1 rfl rfl)
theorem dX5_ask_2 : decode cX5_ask 2 = .ok (.invokevirtual 25, 3) := dk_182 0 25 (dk_at dksX5_ask_0 2 rfl rfl)
theorem dX5_ask_5 : decode cX5_ask 5 = .ok (.istore_n 3, 1) := dk_62 (dk_at dksX5_ask_0 5 rfl rfl)
theorem dX5_ask_6 : decode cX5_ask 6 = .ok (.iload_n 3, 1) := dk_29 (dk_at dksX5_ask_0 6 rfl rfl)
theorem dX5_ask_7 : decode cX5_ask 7 = .ok (.iload_n 1, 1) := dk_27 (dk_at dksX5_ask_0 7 rfl rfl)
theorem dX5_ask_8 : decode cX5_ask 8 = .ok (.if_icmp .eq 27, 3) := dk_159 0 27 (dk_at dksX5_ask_0 8 rfl rfl)
theorem dX5_ask_11 : decode cX5_ask 11 = .ok (.aload_n 0, 1) := dk_42 (dk_at dksX5_ask_0 11 rfl rfl)
theorem dX5_ask_12 : decode cX5_ask 12 = .ok (.iload_n 3, 1) := dk_29 (dk_at dksX5_ask_0 12 rfl rfl)
theorem dX5_ask_13 : decode cX5_ask 13 = .ok (.invokevirtual 30, 3) := dk_182 0 30 (dk_at dksX5_ask_0 13 rfl rfl)
theorem dX5_ask_16 : decode cX5_ask 16 = .ok (.ifCond .le 10, 3) := dk_158 0 10 (dk_at dksX5_ask_0 16 rfl rfl)
theorem dX5_ask_19 : decode cX5_ask 19 = .ok (.bipush 100, 2) := dk_16 100 (dk_at dksX5_ask_0 19 rfl rfl)
theorem dX5_ask_21 : decode cX5_ask 21 = .ok (.iload_n 3, 1) := dk_29 (dk_at dksX5_ask_0 21 rfl rfl)
theorem dX5_ask_22 : decode cX5_ask 22 = .ok (.imul, 1) := dk_104 (dk_at dksX5_ask_0 22 rfl rfl)
theorem dX5_ask_23 : decode cX5_ask 23 = .ok (.iload_n 2, 1) := dk_28 (dk_at dksX5_ask_0 23 rfl rfl)
theorem dX5_ask_24 : decode cX5_ask 24 = .ok (.iadd, 1) := dk_96 (dk_at dksX5_ask_1 0 rfl rfl)
theorem dX5_ask_25 : decode cX5_ask 25 = .ok (.ireturn, 1) := dk_172 (dk_at dksX5_ask_1 1 rfl rfl)
theorem dX5_ask_26 : decode cX5_ask 26 = .ok (.aload_n 0, 1) := dk_42 (dk_at dksX5_ask_1 2 rfl rfl)
theorem dX5_ask_27 : decode cX5_ask 27 = .ok (.iload_n 3, 1) := dk_29 (dk_at dksX5_ask_1 3 rfl rfl)
theorem dX5_ask_28 : decode cX5_ask 28 = .ok (.invokevirtual 25, 3) := dk_182 0 25 (dk_at dksX5_ask_1 4 rfl rfl)
theorem dX5_ask_31 : decode cX5_ask 31 = .ok (.istore_n 3, 1) := dk_62 (dk_at dksX5_ask_1 7 rfl rfl)
theorem dX5_ask_32 : decode cX5_ask 32 = .ok (.goto (-26), 3) := dk_167 255 230 (dk_at dksX5_ask_1 8 rfl rfl)
theorem dX5_ask_35 : decode cX5_ask 35 = .ok (.bipush 100, 2) := dk_16 100 (dk_at dksX5_ask_1 11 rfl rfl)
theorem dX5_ask_37 : decode cX5_ask 37 = .ok (.aload_n 0, 1) := dk_42 (dk_at dksX5_ask_1 13 rfl rfl)
theorem dX5_ask_38 : decode cX5_ask 38 = .ok (.iload_n 1, 1) := dk_27 (dk_at dksX5_ask_1 14 rfl rfl)
theorem dX5_ask_39 : decode cX5_ask 39 = .ok (.invokevirtual 25, 3) := dk_182 0 25 (dk_at dksX5_ask_1 15 rfl rfl)
theorem dX5_ask_42 : decode cX5_ask 42 = .ok (.imul, 1) := dk_104 (dk_at dksX5_ask_1 18 rfl rfl)
theorem dX5_ask_43 : decode cX5_ask 43 = .ok (.iload_n 2, 1) := dk_28 (dk_at dksX5_ask_1 19 rfl rfl)
theorem dX5_ask_44 : decode cX5_ask 44 = .ok (.iadd, 1) := dk_96 (dk_at dksX5_ask_1 20 rfl rfl)
theorem dX5_ask_45 : decode cX5_ask 45 = .ok (.ireturn, 1) := dk_172 (dk_at dksX5_ask_1 21 rfl rfl)
theorem q128 : (Jvm.Cond.initialized "SevenTable$Bent") ∈ lw_all := lw_g (lw_at lw_m1 11 rfl) rfl
theorem q271 : (Jvm.Cond.fieldLinkNest "SevenTable$Bent" (33 : Nat) "SevenTable$Game" "hand" "[[I" "SevenTable") ∈ lw_tbl := lw_at lw_m1 154 rfl
theorem q465 : (Jvm.Cond.instanceMethod ({ cls := "SevenTable$Bent", name := "<init>", desc := "()V" } : Jvm.MethodName)) ∈ lw_all := lw_g (lw_at lw_m2 108 rfl) rfl
theorem q466 : (Jvm.Cond.code ({ cls := "SevenTable$Bent", name := "<init>", desc := "()V" } : Jvm.MethodName) prog_2_method_1_code (1 : Nat) (Option.none : Option Jvm.ClassFile.FieldType)) ∈ lw_all := lw_g (lw_at lw_m2 109 rfl) rfl
theorem q467 : (Jvm.Cond.methodLink "SevenTable$Bent" (3 : Nat) ({ cls := "java/lang/Object", name := "<init>", desc := "()V" } : Jvm.MethodName)) ∈ lw_all := lw_g (lw_at lw_m2 110 rfl) rfl
theorem q1213 : (Jvm.Cond.static ({ cls := "SevenTable$Bent", name := "kinds", desc := "(LSevenTable$Game;I)I" } : Jvm.MethodName)) ∈ lw_all := lw_g (lw_at lw_m5 136 rfl) rfl
theorem q1214 : (Jvm.Cond.code ({ cls := "SevenTable$Bent", name := "kinds", desc := "(LSevenTable$Game;I)I" } : Jvm.MethodName) prog_2_method_5_code (4 : Nat) (Option.some Jvm.ClassFile.FieldType.int)) ∈ lw_all := lw_g (lw_at lw_m5 137 rfl) rfl
theorem q1411 : (Jvm.Cond.declares ({ cls := "SevenTable$Bent", name := "asks", desc := "(LSevenTable$Game;I)I" } : Jvm.MethodName)) ∈ lw_tbl := lw_at lw_m6 94 rfl
theorem q1412 : (Jvm.Cond.sameMethod "SevenTable$Bent" "SevenTable$Bent" "asks" "(LSevenTable$Game;I)I") ∈ lw_all := lw_g (lw_at lw_m6 95 rfl) rfl
theorem q1419 : (Jvm.Cond.static ({ cls := "SevenTable$Bent", name := "least", desc := "(LSevenTable$Game;I)I" } : Jvm.MethodName)) ∈ lw_all := lw_g (lw_at lw_m6 102 rfl) rfl
theorem q1420 : (Jvm.Cond.code ({ cls := "SevenTable$Bent", name := "least", desc := "(LSevenTable$Game;I)I" } : Jvm.MethodName) prog_2_method_3_code (2 : Nat) (Option.some Jvm.ClassFile.FieldType.int)) ∈ lw_all := lw_g (lw_at lw_m6 103 rfl) rfl
theorem q1421 : (Jvm.Cond.methodLink "SevenTable$Bent" (9 : Nat) ({ cls := "SevenTable$Bent", name := "kinds", desc := "(LSevenTable$Game;I)I" } : Jvm.MethodName)) ∈ lw_all := lw_g (lw_at lw_m6 104 rfl) rfl
theorem q1422 : (Jvm.Cond.methodLink "SevenTable$Bent" (15 : Nat) ({ cls := "java/lang/Integer", name := "numberOfTrailingZeros", desc := "(I)I" } : Jvm.MethodName)) ∈ lw_all := lw_g (lw_at lw_m6 105 rfl) rfl
theorem q1426 : (Jvm.Cond.methodLink "SevenTable$Bent" (21 : Nat) ({ cls := "SevenTable$Bent", name := "ask", desc := "(LSevenTable$Game;II)I" } : Jvm.MethodName)) ∈ lw_all := lw_g (lw_at lw_m6 109 rfl) rfl
theorem q1427 : (Jvm.Cond.static ({ cls := "SevenTable$Bent", name := "ask", desc := "(LSevenTable$Game;II)I" } : Jvm.MethodName)) ∈ lw_all := lw_g (lw_at lw_m6 110 rfl) rfl
theorem q1428 : (Jvm.Cond.code ({ cls := "SevenTable$Bent", name := "ask", desc := "(LSevenTable$Game;II)I" } : Jvm.MethodName) prog_2_method_4_code (4 : Nat) (Option.some Jvm.ClassFile.FieldType.int)) ∈ lw_all := lw_g (lw_at lw_m6 111 rfl) rfl
theorem q1429 : (Jvm.Cond.methodLink "SevenTable$Bent" (25 : Nat) ({ cls := "SevenTable$Game", name := "next", desc := "(I)I" } : Jvm.MethodName)) ∈ lw_all := lw_g (lw_at lw_m6 112 rfl) rfl
theorem q1433 : (Jvm.Cond.methodLink "SevenTable$Bent" (30 : Nat) ({ cls := "SevenTable$Game", name := "size", desc := "(I)I" } : Jvm.MethodName)) ∈ lw_all := lw_g (lw_at lw_m6 116 rfl) rfl
theorem q2494 : (Jvm.Cond.castable "SevenTable$Bent" "java/lang/Object") ∈ lw_tbl := lw_at lw_m10 217 rfl
/-! SevenTable$Least -/
set_option maxRecDepth 100000
def RX6 : String := "SevenTable$Least"
abbrev cX6_init : ByteArray := prog_12_method_1_code
def yX6_init : MethodName := ⟨RX6, "<init>", "()V"⟩
theorem dX6_init_0 : decode cX6_init 0 = .ok (.aload_n 0, 1) := by decide +kernel
theorem dX6_init_1 : decode cX6_init 1 = .ok (.invokespecial 1, 3) := by decide +kernel
theorem dX6_init_4 : decode cX6_init 4 = .ok (.return_, 1) := by decide +kernel
abbrev cX6_asks : ByteArray := prog_12_method_2_code
def yX6_asks : MethodName := ⟨RX6, "asks", "(LSevenTable$Game;I)I"⟩
def dkwX6_asks_0 : List UInt8 := [43, 28, 184, 0, 7, 172]
abbrev dktX6_asks_0 : List UInt8 := dkwX6_asks_0 ++ []
theorem dksX6_asks_0 : cX6_asks.data.toList.drop 0 = dktX6_asks_0 := by decide +kernel
theorem dX6_asks_0 : decode cX6_asks 0 = .ok (.aload_n 1, 1) := dk_43 (dk_at dksX6_asks_0 0 rfl rfl)
theorem dX6_asks_1 : decode cX6_asks 1 = .ok (.iload_n 2, 1) := dk_28 (dk_at dksX6_asks_0 1 rfl rfl)
theorem dX6_asks_2 : decode cX6_asks 2 = .ok (.invokestatic 7, 3) := dk_184 0 7 (dk_at dksX6_asks_0 2 rfl rfl)
theorem dX6_asks_5 : decode cX6_asks 5 = .ok (.ireturn, 1) := dk_172 (dk_at dksX6_asks_0 5 rfl rfl)
theorem q129 : (Jvm.Cond.initialized "SevenTable$Least") ∈ lw_all := lw_g (lw_at lw_m1 12 rfl) rfl
theorem q460 : (Jvm.Cond.instantiable "SevenTable$Least" (0 : Nat)) ∈ lw_all := lw_g (lw_at lw_m2 103 rfl) rfl
theorem q462 : (Jvm.Cond.instanceMethod ({ cls := "SevenTable$Least", name := "<init>", desc := "()V" } : Jvm.MethodName)) ∈ lw_all := lw_g (lw_at lw_m2 105 rfl) rfl
theorem q463 : (Jvm.Cond.code ({ cls := "SevenTable$Least", name := "<init>", desc := "()V" } : Jvm.MethodName) prog_12_method_1_code (1 : Nat) (Option.none : Option Jvm.ClassFile.FieldType)) ∈ lw_all := lw_g (lw_at lw_m2 106 rfl) rfl
theorem q464 : (Jvm.Cond.methodLinkNest "SevenTable$Least" (1 : Nat) ({ cls := "SevenTable$Bent", name := "<init>", desc := "()V" } : Jvm.MethodName) "SevenTable") ∈ lw_tbl := lw_at lw_m2 107 rfl
theorem q468 : (Jvm.Cond.superclass "SevenTable$Least" "SevenTable$Bent") ∈ lw_all := lw_g (lw_at lw_m2 111 rfl) rfl
theorem q1087 : (Jvm.Cond.selects "SevenTable$Least" ({ cls := "java/lang/Object", name := "equals", desc := "(Ljava/lang/Object;)Z" } : Jvm.MethodName) ({ cls := "java/lang/Object", name := "equals", desc := "(Ljava/lang/Object;)Z" } : Jvm.MethodName)) ∈ lw_all := lw_g (lw_at lw_m5 10 rfl) rfl
theorem q1132 : (Jvm.Cond.selects "SevenTable$Least" ({ cls := "java/lang/Object", name := "getClass", desc := "()Ljava/lang/Class;" } : Jvm.MethodName) ({ cls := "java/lang/Object", name := "getClass", desc := "()Ljava/lang/Class;" } : Jvm.MethodName)) ∈ lw_all := lw_g (lw_at lw_m5 55 rfl) rfl
theorem q1441 : (Jvm.Cond.selects "SevenTable$Least" ({ cls := "SevenTable$Bent", name := "asks", desc := "(LSevenTable$Game;I)I" } : Jvm.MethodName) ({ cls := "SevenTable$Least", name := "asks", desc := "(LSevenTable$Game;I)I" } : Jvm.MethodName)) ∈ lw_all := lw_g (lw_at lw_m6 124 rfl) rfl
theorem q1442 : (Jvm.Cond.instanceMethod ({ cls := "SevenTable$Least", name := "asks", desc := "(LSevenTable$Game;I)I" } : Jvm.MethodName)) ∈ lw_all := lw_g (lw_at lw_m6 125 rfl) rfl
theorem q1443 : (Jvm.Cond.code ({ cls := "SevenTable$Least", name := "asks", desc := "(LSevenTable$Game;I)I" } : Jvm.MethodName) prog_12_method_2_code (3 : Nat) (Option.some Jvm.ClassFile.FieldType.int)) ∈ lw_all := lw_g (lw_at lw_m6 126 rfl) rfl
theorem q1444 : (Jvm.Cond.methodLink "SevenTable$Least" (7 : Nat) ({ cls := "SevenTable$Least", name := "least", desc := "(LSevenTable$Game;I)I" } : Jvm.MethodName)) ∈ lw_all := lw_g (lw_at lw_m6 127 rfl) rfl
theorem q1445 : (Jvm.Cond.sameMethod "SevenTable$Least" "SevenTable$Bent" "least" "(LSevenTable$Game;I)I") ∈ lw_all := lw_g (lw_at lw_m6 128 rfl) rfl
theorem q2500 : (Jvm.Cond.castable "SevenTable$Least" "java/lang/Object") ∈ lw_tbl := lw_at lw_m10 223 rfl
theorem q2518 : (Jvm.Cond.castable "SevenTable$Least" "SevenTable$Bent") ∈ lw_tbl := lw_at lw_m11 1 rfl
/-! SevenTable$Knowing -/
set_option maxRecDepth 100000
def RX7 : String := "SevenTable$Knowing"
abbrev cX7_init : ByteArray := prog_10_method_1_code
def yX7_init : MethodName := ⟨RX7, "<init>", "()V"⟩
theorem dX7_init_0 : decode cX7_init 0 = .ok (.aload_n 0, 1) := by decide +kernel
theorem dX7_init_1 : decode cX7_init 1 = .ok (.invokespecial 3, 3) := by decide +kernel
theorem dX7_init_4 : decode cX7_init 4 = .ok (.return_, 1) := by decide +kernel
abbrev cX7_asks : ByteArray := prog_10_method_2_code
def yX7_asks : MethodName := ⟨RX7, "asks", "(LSevenTable$Game;I)I"⟩
def dkwX7_asks_3 : List UInt8 := [43, 28, 184, 0, 28, 172]
abbrev dktX7_asks_3 : List UInt8 := dkwX7_asks_3 ++ []
def dkwX7_asks_2 : List UInt8 := [46, 158, 0, 11, 16, 100, 29, 104, 21, 4, 96, 172, 132, 4, 1, 167, 255, 209, 132, 3, 1, 167, 255, 189]
abbrev dktX7_asks_2 : List UInt8 := dkwX7_asks_2 ++ dktX7_asks_3
def dkwX7_asks_1 : List UInt8 := [28, 159, 0, 41, 43, 180, 0, 21, 29, 50, 21, 4, 46, 158, 0, 23, 43, 180, 0, 25, 28, 50, 21, 4]
abbrev dktX7_asks_1 : List UInt8 := dkwX7_asks_1 ++ dktX7_asks_2
def dkwX7_asks_0 : List UInt8 := [3, 62, 29, 43, 180, 0, 9, 182, 0, 15, 162, 0, 62, 3, 54, 4, 21, 4, 16, 13, 162, 0, 46, 29]
abbrev dktX7_asks_0 : List UInt8 := dkwX7_asks_0 ++ dktX7_asks_1
theorem dksX7_asks_0 : cX7_asks.data.toList.drop 0 = dktX7_asks_0 := by decide +kernel
theorem dksX7_asks_1 : cX7_asks.data.toList.drop 24 = dktX7_asks_1 := dk_seg dksX7_asks_0 24 rfl rfl
theorem dksX7_asks_2 : cX7_asks.data.toList.drop 48 = dktX7_asks_2 := dk_seg dksX7_asks_1 24 rfl rfl
theorem dksX7_asks_3 : cX7_asks.data.toList.drop 72 = dktX7_asks_3 := dk_seg dksX7_asks_2 24 rfl rfl
theorem dX7_asks_0 : decode cX7_asks 0 = .ok (.iconst 0, 1) := dk_3 (dk_at dksX7_asks_0 0 rfl rfl)
theorem dX7_asks_1 : decode cX7_asks 1 = .ok (.istore_n 3, 1) := dk_62 (dk_at dksX7_asks_0 1 rfl rfl)
theorem dX7_asks_2 : decode cX7_asks 2 = .ok (.iload_n 3, 1) := dk_29 (dk_at dksX7_asks_0 2 rfl rfl)
theorem dX7_asks_3 : decode cX7_asks 3 = .ok (.aload_n 1, 1) := dk_43 (dk_at dksX7_asks_0 3 rfl rfl)
theorem dX7_asks_4 : decode cX7_asks 4 = .ok (.getfield 9, 3) := dk_180 0 9 (dk_at dksX7_asks_0 4 rfl rfl)
theorem dX7_asks_7 : decode cX7_asks 7 = .ok (.invokevirtual 15, 3) := dk_182 0 15 (dk_at dksX7_asks_0 7 rfl rfl)
theorem dX7_asks_10 : decode cX7_asks 10 = .ok (.if_icmp .ge 62, 3) := dk_162 0 62 (dk_at dksX7_asks_0 10 rfl rfl)
theorem dX7_asks_13 : decode cX7_asks 13 = .ok (.iconst 0, 1) := dk_3 (dk_at dksX7_asks_0 13 rfl rfl)
theorem dX7_asks_14 : decode cX7_asks 14 = .ok (.istore 4, 2) := dk_54 4 (dk_at dksX7_asks_0 14 rfl rfl)
theorem dX7_asks_16 : decode cX7_asks 16 = .ok (.iload 4, 2) := dk_21 4 (dk_at dksX7_asks_0 16 rfl rfl)
theorem dX7_asks_18 : decode cX7_asks 18 = .ok (.bipush 13, 2) := dk_16 13 (dk_at dksX7_asks_0 18 rfl rfl)
theorem dX7_asks_20 : decode cX7_asks 20 = .ok (.if_icmp .ge 46, 3) := dk_162 0 46 (dk_at dksX7_asks_0 20 rfl rfl)
theorem dX7_asks_23 : decode cX7_asks 23 = .ok (.iload_n 3, 1) := dk_29 (dk_at dksX7_asks_0 23 rfl rfl)
theorem dX7_asks_24 : decode cX7_asks 24 = .ok (.iload_n 2, 1) := dk_28 (dk_at dksX7_asks_1 0 rfl rfl)
theorem dX7_asks_25 : decode cX7_asks 25 = .ok (.if_icmp .eq 41, 3) := dk_159 0 41 (dk_at dksX7_asks_1 1 rfl rfl)
theorem dX7_asks_28 : decode cX7_asks 28 = .ok (.aload_n 1, 1) := dk_43 (dk_at dksX7_asks_1 4 rfl rfl)
theorem dX7_asks_29 : decode cX7_asks 29 = .ok (.getfield 21, 3) := dk_180 0 21 (dk_at dksX7_asks_1 5 rfl rfl)
theorem dX7_asks_32 : decode cX7_asks 32 = .ok (.iload_n 3, 1) := dk_29 (dk_at dksX7_asks_1 8 rfl rfl)
theorem dX7_asks_33 : decode cX7_asks 33 = .ok (.aaload, 1) := dk_50 (dk_at dksX7_asks_1 9 rfl rfl)
theorem dX7_asks_34 : decode cX7_asks 34 = .ok (.iload 4, 2) := dk_21 4 (dk_at dksX7_asks_1 10 rfl rfl)
theorem dX7_asks_36 : decode cX7_asks 36 = .ok (.iaload, 1) := dk_46 (dk_at dksX7_asks_1 12 rfl rfl)
theorem dX7_asks_37 : decode cX7_asks 37 = .ok (.ifCond .le 23, 3) := dk_158 0 23 (dk_at dksX7_asks_1 13 rfl rfl)
theorem dX7_asks_40 : decode cX7_asks 40 = .ok (.aload_n 1, 1) := dk_43 (dk_at dksX7_asks_1 16 rfl rfl)
theorem dX7_asks_41 : decode cX7_asks 41 = .ok (.getfield 25, 3) := dk_180 0 25 (dk_at dksX7_asks_1 17 rfl rfl)
theorem dX7_asks_44 : decode cX7_asks 44 = .ok (.iload_n 2, 1) := dk_28 (dk_at dksX7_asks_1 20 rfl rfl)
theorem dX7_asks_45 : decode cX7_asks 45 = .ok (.aaload, 1) := dk_50 (dk_at dksX7_asks_1 21 rfl rfl)
theorem dX7_asks_46 : decode cX7_asks 46 = .ok (.iload 4, 2) := dk_21 4 (dk_at dksX7_asks_1 22 rfl rfl)
theorem dX7_asks_48 : decode cX7_asks 48 = .ok (.iaload, 1) := dk_46 (dk_at dksX7_asks_2 0 rfl rfl)
theorem dX7_asks_49 : decode cX7_asks 49 = .ok (.ifCond .le 11, 3) := dk_158 0 11 (dk_at dksX7_asks_2 1 rfl rfl)
theorem dX7_asks_52 : decode cX7_asks 52 = .ok (.bipush 100, 2) := dk_16 100 (dk_at dksX7_asks_2 4 rfl rfl)
theorem dX7_asks_54 : decode cX7_asks 54 = .ok (.iload_n 3, 1) := dk_29 (dk_at dksX7_asks_2 6 rfl rfl)
theorem dX7_asks_55 : decode cX7_asks 55 = .ok (.imul, 1) := dk_104 (dk_at dksX7_asks_2 7 rfl rfl)
theorem dX7_asks_56 : decode cX7_asks 56 = .ok (.iload 4, 2) := dk_21 4 (dk_at dksX7_asks_2 8 rfl rfl)
theorem dX7_asks_58 : decode cX7_asks 58 = .ok (.iadd, 1) := dk_96 (dk_at dksX7_asks_2 10 rfl rfl)
theorem dX7_asks_59 : decode cX7_asks 59 = .ok (.ireturn, 1) := dk_172 (dk_at dksX7_asks_2 11 rfl rfl)
theorem dX7_asks_60 : decode cX7_asks 60 = .ok (.iinc 4 1, 3) := dk_132 4 1 (dk_at dksX7_asks_2 12 rfl rfl)
theorem dX7_asks_63 : decode cX7_asks 63 = .ok (.goto (-47), 3) := dk_167 255 209 (dk_at dksX7_asks_2 15 rfl rfl)
theorem dX7_asks_66 : decode cX7_asks 66 = .ok (.iinc 3 1, 3) := dk_132 3 1 (dk_at dksX7_asks_2 18 rfl rfl)
theorem dX7_asks_69 : decode cX7_asks 69 = .ok (.goto (-67), 3) := dk_167 255 189 (dk_at dksX7_asks_2 21 rfl rfl)
theorem dX7_asks_72 : decode cX7_asks 72 = .ok (.aload_n 1, 1) := dk_43 (dk_at dksX7_asks_3 0 rfl rfl)
theorem dX7_asks_73 : decode cX7_asks 73 = .ok (.iload_n 2, 1) := dk_28 (dk_at dksX7_asks_3 1 rfl rfl)
theorem dX7_asks_74 : decode cX7_asks 74 = .ok (.invokestatic 28, 3) := dk_184 0 28 (dk_at dksX7_asks_3 2 rfl rfl)
theorem dX7_asks_77 : decode cX7_asks 77 = .ok (.ireturn, 1) := dk_172 (dk_at dksX7_asks_3 5 rfl rfl)
theorem q130 : (Jvm.Cond.initialized "SevenTable$Knowing") ∈ lw_all := lw_g (lw_at lw_m1 13 rfl) rfl
theorem q260 : (Jvm.Cond.fieldLinkNest "SevenTable$Knowing" (9 : Nat) "SevenTable$Game" "t" "LSevenTable$Table;" "SevenTable") ∈ lw_tbl := lw_at lw_m1 143 rfl
theorem q268 : (Jvm.Cond.fieldLinkNest "SevenTable$Knowing" (25 : Nat) "SevenTable$Game" "hand" "[[I" "SevenTable") ∈ lw_tbl := lw_at lw_m1 151 rfl
theorem q276 : (Jvm.Cond.fieldLinkNest "SevenTable$Knowing" (21 : Nat) "SevenTable$Game" "known" "[[I" "SevenTable") ∈ lw_tbl := lw_at lw_m1 159 rfl
theorem q470 : (Jvm.Cond.instantiable "SevenTable$Knowing" (0 : Nat)) ∈ lw_all := lw_g (lw_at lw_m2 113 rfl) rfl
theorem q472 : (Jvm.Cond.instanceMethod ({ cls := "SevenTable$Knowing", name := "<init>", desc := "()V" } : Jvm.MethodName)) ∈ lw_all := lw_g (lw_at lw_m2 115 rfl) rfl
theorem q473 : (Jvm.Cond.code ({ cls := "SevenTable$Knowing", name := "<init>", desc := "()V" } : Jvm.MethodName) prog_10_method_1_code (1 : Nat) (Option.none : Option Jvm.ClassFile.FieldType)) ∈ lw_all := lw_g (lw_at lw_m2 116 rfl) rfl
theorem q474 : (Jvm.Cond.methodLinkNest "SevenTable$Knowing" (3 : Nat) ({ cls := "SevenTable$Bent", name := "<init>", desc := "()V" } : Jvm.MethodName) "SevenTable") ∈ lw_tbl := lw_at lw_m2 117 rfl
theorem q475 : (Jvm.Cond.superclass "SevenTable$Knowing" "SevenTable$Bent") ∈ lw_all := lw_g (lw_at lw_m2 118 rfl) rfl
theorem q1085 : (Jvm.Cond.selects "SevenTable$Knowing" ({ cls := "java/lang/Object", name := "equals", desc := "(Ljava/lang/Object;)Z" } : Jvm.MethodName) ({ cls := "java/lang/Object", name := "equals", desc := "(Ljava/lang/Object;)Z" } : Jvm.MethodName)) ∈ lw_all := lw_g (lw_at lw_m5 8 rfl) rfl
theorem q1130 : (Jvm.Cond.selects "SevenTable$Knowing" ({ cls := "java/lang/Object", name := "getClass", desc := "()Ljava/lang/Class;" } : Jvm.MethodName) ({ cls := "java/lang/Object", name := "getClass", desc := "()Ljava/lang/Class;" } : Jvm.MethodName)) ∈ lw_all := lw_g (lw_at lw_m5 53 rfl) rfl
theorem q1413 : (Jvm.Cond.selects "SevenTable$Knowing" ({ cls := "SevenTable$Bent", name := "asks", desc := "(LSevenTable$Game;I)I" } : Jvm.MethodName) ({ cls := "SevenTable$Knowing", name := "asks", desc := "(LSevenTable$Game;I)I" } : Jvm.MethodName)) ∈ lw_all := lw_g (lw_at lw_m6 96 rfl) rfl
theorem q1414 : (Jvm.Cond.instanceMethod ({ cls := "SevenTable$Knowing", name := "asks", desc := "(LSevenTable$Game;I)I" } : Jvm.MethodName)) ∈ lw_all := lw_g (lw_at lw_m6 97 rfl) rfl
theorem q1415 : (Jvm.Cond.code ({ cls := "SevenTable$Knowing", name := "asks", desc := "(LSevenTable$Game;I)I" } : Jvm.MethodName) prog_10_method_2_code (5 : Nat) (Option.some Jvm.ClassFile.FieldType.int)) ∈ lw_all := lw_g (lw_at lw_m6 98 rfl) rfl
theorem q1416 : (Jvm.Cond.methodLink "SevenTable$Knowing" (15 : Nat) ({ cls := "SevenTable$Table", name := "many", desc := "()I" } : Jvm.MethodName)) ∈ lw_all := lw_g (lw_at lw_m6 99 rfl) rfl
theorem q1417 : (Jvm.Cond.methodLink "SevenTable$Knowing" (28 : Nat) ({ cls := "SevenTable$Knowing", name := "least", desc := "(LSevenTable$Game;I)I" } : Jvm.MethodName)) ∈ lw_all := lw_g (lw_at lw_m6 100 rfl) rfl
theorem q1418 : (Jvm.Cond.sameMethod "SevenTable$Knowing" "SevenTable$Bent" "least" "(LSevenTable$Game;I)I") ∈ lw_all := lw_g (lw_at lw_m6 101 rfl) rfl
theorem q2501 : (Jvm.Cond.castable "SevenTable$Knowing" "java/lang/Object") ∈ lw_tbl := lw_at lw_m10 224 rfl
theorem q2519 : (Jvm.Cond.castable "SevenTable$Knowing" "SevenTable$Bent") ∈ lw_tbl := lw_at lw_m11 2 rfl
/-! SevenTable$Most -/
set_option maxRecDepth 100000
def RX8 : String := "SevenTable$Most"
abbrev cX8_init : ByteArray := prog_13_method_1_code
def yX8_init : MethodName := ⟨RX8, "<init>", "()V"⟩
theorem dX8_init_0 : decode cX8_init 0 = .ok (.aload_n 0, 1) := by decide +kernel
theorem dX8_init_1 : decode cX8_init 1 = .ok (.invokespecial 3, 3) := by decide +kernel
theorem dX8_init_4 : decode cX8_init 4 = .ok (.return_, 1) := by decide +kernel
abbrev cX8_asks : ByteArray := prog_13_method_2_code
def yX8_asks : MethodName := ⟨RX8, "asks", "(LSevenTable$Game;I)I"⟩
def dkwX8_asks_4 : List UInt8 := [132, 5, 1, 167, 255, 210, 16, 100, 21, 4, 104, 29, 96, 172]
abbrev dktX8_asks_4 : List UInt8 := dkwX8_asks_4 ++ []
def dkwX8_asks_3 : List UInt8 := [159, 0, 18, 43, 21, 5, 182, 0, 25, 43, 21, 4, 182, 0, 25, 164, 0, 7, 21, 5, 54, 4]
abbrev dktX8_asks_3 : List UInt8 := dkwX8_asks_3 ++ dktX8_asks_4
def dkwX8_asks_2 : List UInt8 := [54, 5, 21, 5, 43, 180, 0, 15, 182, 0, 19, 162, 0, 40, 21, 5, 28, 159, 0, 28, 21, 4, 2]
abbrev dktX8_asks_2 : List UInt8 := dkwX8_asks_2 ++ dktX8_asks_3
def dkwX8_asks_1 : List UInt8 := [180, 0, 9, 28, 50, 29, 46, 164, 0, 6, 21, 4, 62, 132, 4, 1, 167, 255, 223, 2, 54, 4, 3]
abbrev dktX8_asks_1 : List UInt8 := dkwX8_asks_1 ++ dktX8_asks_2
def dkwX8_asks_0 : List UInt8 := [3, 62, 4, 54, 4, 21, 4, 16, 13, 162, 0, 32, 43, 180, 0, 9, 28, 50, 21, 4, 46, 43]
abbrev dktX8_asks_0 : List UInt8 := dkwX8_asks_0 ++ dktX8_asks_1
theorem dksX8_asks_0 : cX8_asks.data.toList.drop 0 = dktX8_asks_0 := by decide +kernel
theorem dksX8_asks_1 : cX8_asks.data.toList.drop 22 = dktX8_asks_1 := dk_seg dksX8_asks_0 22 rfl rfl
theorem dksX8_asks_2 : cX8_asks.data.toList.drop 45 = dktX8_asks_2 := dk_seg dksX8_asks_1 23 rfl rfl
theorem dksX8_asks_3 : cX8_asks.data.toList.drop 68 = dktX8_asks_3 := dk_seg dksX8_asks_2 23 rfl rfl
theorem dksX8_asks_4 : cX8_asks.data.toList.drop 90 = dktX8_asks_4 := dk_seg dksX8_asks_3 22 rfl rfl
theorem dX8_asks_0 : decode cX8_asks 0 = .ok (.iconst 0, 1) := dk_3 (dk_at dksX8_asks_0 0 rfl rfl)
theorem dX8_asks_1 : decode cX8_asks 1 = .ok (.istore_n 3, 1) := dk_62 (dk_at dksX8_asks_0 1 rfl rfl)
theorem dX8_asks_2 : decode cX8_asks 2 = .ok (.iconst 1, 1) := dk_4 (dk_at dksX8_asks_0 2 rfl rfl)
theorem dX8_asks_3 : decode cX8_asks 3 = .ok (.istore 4, 2) := dk_54 4 (dk_at dksX8_asks_0 3 rfl rfl)
theorem dX8_asks_5 : decode cX8_asks 5 = .ok (.iload 4, 2) := dk_21 4 (dk_at dksX8_asks_0 5 rfl rfl)
theorem dX8_asks_7 : decode cX8_asks 7 = .ok (.bipush 13, 2) := dk_16 13 (dk_at dksX8_asks_0 7 rfl rfl)
theorem dX8_asks_9 : decode cX8_asks 9 = .ok (.if_icmp .ge 32, 3) := dk_162 0 32 (dk_at dksX8_asks_0 9 rfl rfl)
theorem dX8_asks_12 : decode cX8_asks 12 = .ok (.aload_n 1, 1) := dk_43 (dk_at dksX8_asks_0 12 rfl rfl)
theorem dX8_asks_13 : decode cX8_asks 13 = .ok (.getfield 9, 3) := dk_180 0 9 (dk_at dksX8_asks_0 13 rfl rfl)
theorem dX8_asks_16 : decode cX8_asks 16 = .ok (.iload_n 2, 1) := dk_28 (dk_at dksX8_asks_0 16 rfl rfl)
theorem dX8_asks_17 : decode cX8_asks 17 = .ok (.aaload, 1) := dk_50 (dk_at dksX8_asks_0 17 rfl rfl)
theorem dX8_asks_18 : decode cX8_asks 18 = .ok (.iload 4, 2) := dk_21 4 (dk_at dksX8_asks_0 18 rfl rfl)
theorem dX8_asks_20 : decode cX8_asks 20 = .ok (.iaload, 1) := dk_46 (dk_at dksX8_asks_0 20 rfl rfl)
theorem dX8_asks_21 : decode cX8_asks 21 = .ok (.aload_n 1, 1) := dk_43 (dk_at dksX8_asks_0 21 rfl rfl)
theorem dX8_asks_22 : decode cX8_asks 22 = .ok (.getfield 9, 3) := dk_180 0 9 (dk_at dksX8_asks_1 0 rfl rfl)
theorem dX8_asks_25 : decode cX8_asks 25 = .ok (.iload_n 2, 1) := dk_28 (dk_at dksX8_asks_1 3 rfl rfl)
theorem dX8_asks_26 : decode cX8_asks 26 = .ok (.aaload, 1) := dk_50 (dk_at dksX8_asks_1 4 rfl rfl)
theorem dX8_asks_27 : decode cX8_asks 27 = .ok (.iload_n 3, 1) := dk_29 (dk_at dksX8_asks_1 5 rfl rfl)
theorem dX8_asks_28 : decode cX8_asks 28 = .ok (.iaload, 1) := dk_46 (dk_at dksX8_asks_1 6 rfl rfl)
theorem dX8_asks_29 : decode cX8_asks 29 = .ok (.if_icmp .le 6, 3) := dk_164 0 6 (dk_at dksX8_asks_1 7 rfl rfl)
theorem dX8_asks_32 : decode cX8_asks 32 = .ok (.iload 4, 2) := dk_21 4 (dk_at dksX8_asks_1 10 rfl rfl)
theorem dX8_asks_34 : decode cX8_asks 34 = .ok (.istore_n 3, 1) := dk_62 (dk_at dksX8_asks_1 12 rfl rfl)
theorem dX8_asks_35 : decode cX8_asks 35 = .ok (.iinc 4 1, 3) := dk_132 4 1 (dk_at dksX8_asks_1 13 rfl rfl)
theorem dX8_asks_38 : decode cX8_asks 38 = .ok (.goto (-33), 3) := dk_167 255 223 (dk_at dksX8_asks_1 16 rfl rfl)
theorem dX8_asks_41 : decode cX8_asks 41 = .ok (.iconst (-1), 1) := dk_2 (dk_at dksX8_asks_1 19 rfl rfl)
theorem dX8_asks_42 : decode cX8_asks 42 = .ok (.istore 4, 2) := dk_54 4 (dk_at dksX8_asks_1 20 rfl rfl)
theorem dX8_asks_44 : decode cX8_asks 44 = .ok (.iconst 0, 1) := dk_3 (dk_at dksX8_asks_1 22 rfl rfl)
theorem dX8_asks_45 : decode cX8_asks 45 = .ok (.istore 5, 2) := dk_54 5 (dk_at dksX8_asks_2 0 rfl rfl)
theorem dX8_asks_47 : decode cX8_asks 47 = .ok (.iload 5, 2) := dk_21 5 (dk_at dksX8_asks_2 2 rfl rfl)
theorem dX8_asks_49 : decode cX8_asks 49 = .ok (.aload_n 1, 1) := dk_43 (dk_at dksX8_asks_2 4 rfl rfl)
theorem dX8_asks_50 : decode cX8_asks 50 = .ok (.getfield 15, 3) := dk_180 0 15 (dk_at dksX8_asks_2 5 rfl rfl)
theorem dX8_asks_53 : decode cX8_asks 53 = .ok (.invokevirtual 19, 3) := dk_182 0 19 (dk_at dksX8_asks_2 8 rfl rfl)
theorem dX8_asks_56 : decode cX8_asks 56 = .ok (.if_icmp .ge 40, 3) := dk_162 0 40 (dk_at dksX8_asks_2 11 rfl rfl)
theorem dX8_asks_59 : decode cX8_asks 59 = .ok (.iload 5, 2) := dk_21 5 (dk_at dksX8_asks_2 14 rfl rfl)
theorem dX8_asks_61 : decode cX8_asks 61 = .ok (.iload_n 2, 1) := dk_28 (dk_at dksX8_asks_2 16 rfl rfl)
theorem dX8_asks_62 : decode cX8_asks 62 = .ok (.if_icmp .eq 28, 3) := dk_159 0 28 (dk_at dksX8_asks_2 17 rfl rfl)
theorem dX8_asks_65 : decode cX8_asks 65 = .ok (.iload 4, 2) := dk_21 4 (dk_at dksX8_asks_2 20 rfl rfl)
theorem dX8_asks_67 : decode cX8_asks 67 = .ok (.iconst (-1), 1) := dk_2 (dk_at dksX8_asks_2 22 rfl rfl)
theorem dX8_asks_68 : decode cX8_asks 68 = .ok (.if_icmp .eq 18, 3) := dk_159 0 18 (dk_at dksX8_asks_3 0 rfl rfl)
theorem dX8_asks_71 : decode cX8_asks 71 = .ok (.aload_n 1, 1) := dk_43 (dk_at dksX8_asks_3 3 rfl rfl)
theorem dX8_asks_72 : decode cX8_asks 72 = .ok (.iload 5, 2) := dk_21 5 (dk_at dksX8_asks_3 4 rfl rfl)
theorem dX8_asks_74 : decode cX8_asks 74 = .ok (.invokevirtual 25, 3) := dk_182 0 25 (dk_at dksX8_asks_3 6 rfl rfl)
theorem dX8_asks_77 : decode cX8_asks 77 = .ok (.aload_n 1, 1) := dk_43 (dk_at dksX8_asks_3 9 rfl rfl)
theorem dX8_asks_78 : decode cX8_asks 78 = .ok (.iload 4, 2) := dk_21 4 (dk_at dksX8_asks_3 10 rfl rfl)
theorem dX8_asks_80 : decode cX8_asks 80 = .ok (.invokevirtual 25, 3) := dk_182 0 25 (dk_at dksX8_asks_3 12 rfl rfl)
theorem dX8_asks_83 : decode cX8_asks 83 = .ok (.if_icmp .le 7, 3) := dk_164 0 7 (dk_at dksX8_asks_3 15 rfl rfl)
theorem dX8_asks_86 : decode cX8_asks 86 = .ok (.iload 5, 2) := dk_21 5 (dk_at dksX8_asks_3 18 rfl rfl)
theorem dX8_asks_88 : decode cX8_asks 88 = .ok (.istore 4, 2) := dk_54 4 (dk_at dksX8_asks_3 20 rfl rfl)
theorem dX8_asks_90 : decode cX8_asks 90 = .ok (.iinc 5 1, 3) := dk_132 5 1 (dk_at dksX8_asks_4 0 rfl rfl)
theorem dX8_asks_93 : decode cX8_asks 93 = .ok (.goto (-46), 3) := dk_167 255 210 (dk_at dksX8_asks_4 3 rfl rfl)
theorem dX8_asks_96 : decode cX8_asks 96 = .ok (.bipush 100, 2) := dk_16 100 (dk_at dksX8_asks_4 6 rfl rfl)
theorem dX8_asks_98 : decode cX8_asks 98 = .ok (.iload 4, 2) := dk_21 4 (dk_at dksX8_asks_4 8 rfl rfl)
theorem dX8_asks_100 : decode cX8_asks 100 = .ok (.imul, 1) := dk_104 (dk_at dksX8_asks_4 10 rfl rfl)
theorem dX8_asks_101 : decode cX8_asks 101 = .ok (.iload_n 3, 1) := dk_29 (dk_at dksX8_asks_4 11 rfl rfl)
theorem dX8_asks_102 : decode cX8_asks 102 = .ok (.iadd, 1) := dk_96 (dk_at dksX8_asks_4 12 rfl rfl)
theorem dX8_asks_103 : decode cX8_asks 103 = .ok (.ireturn, 1) := dk_172 (dk_at dksX8_asks_4 13 rfl rfl)
theorem q131 : (Jvm.Cond.initialized "SevenTable$Most") ∈ lw_all := lw_g (lw_at lw_m1 14 rfl) rfl
theorem q263 : (Jvm.Cond.fieldLinkNest "SevenTable$Most" (15 : Nat) "SevenTable$Game" "t" "LSevenTable$Table;" "SevenTable") ∈ lw_tbl := lw_at lw_m1 146 rfl
theorem q266 : (Jvm.Cond.fieldLinkNest "SevenTable$Most" (9 : Nat) "SevenTable$Game" "hand" "[[I" "SevenTable") ∈ lw_tbl := lw_at lw_m1 149 rfl
theorem q477 : (Jvm.Cond.instantiable "SevenTable$Most" (0 : Nat)) ∈ lw_all := lw_g (lw_at lw_m2 120 rfl) rfl
theorem q479 : (Jvm.Cond.instanceMethod ({ cls := "SevenTable$Most", name := "<init>", desc := "()V" } : Jvm.MethodName)) ∈ lw_all := lw_g (lw_at lw_m2 122 rfl) rfl
theorem q480 : (Jvm.Cond.code ({ cls := "SevenTable$Most", name := "<init>", desc := "()V" } : Jvm.MethodName) prog_13_method_1_code (1 : Nat) (Option.none : Option Jvm.ClassFile.FieldType)) ∈ lw_all := lw_g (lw_at lw_m2 123 rfl) rfl
theorem q481 : (Jvm.Cond.methodLinkNest "SevenTable$Most" (3 : Nat) ({ cls := "SevenTable$Bent", name := "<init>", desc := "()V" } : Jvm.MethodName) "SevenTable") ∈ lw_tbl := lw_at lw_m2 124 rfl
theorem q482 : (Jvm.Cond.superclass "SevenTable$Most" "SevenTable$Bent") ∈ lw_all := lw_g (lw_at lw_m2 125 rfl) rfl
theorem q1088 : (Jvm.Cond.selects "SevenTable$Most" ({ cls := "java/lang/Object", name := "equals", desc := "(Ljava/lang/Object;)Z" } : Jvm.MethodName) ({ cls := "java/lang/Object", name := "equals", desc := "(Ljava/lang/Object;)Z" } : Jvm.MethodName)) ∈ lw_all := lw_g (lw_at lw_m5 11 rfl) rfl
theorem q1133 : (Jvm.Cond.selects "SevenTable$Most" ({ cls := "java/lang/Object", name := "getClass", desc := "()Ljava/lang/Class;" } : Jvm.MethodName) ({ cls := "java/lang/Object", name := "getClass", desc := "()Ljava/lang/Class;" } : Jvm.MethodName)) ∈ lw_all := lw_g (lw_at lw_m5 56 rfl) rfl
theorem q1446 : (Jvm.Cond.selects "SevenTable$Most" ({ cls := "SevenTable$Bent", name := "asks", desc := "(LSevenTable$Game;I)I" } : Jvm.MethodName) ({ cls := "SevenTable$Most", name := "asks", desc := "(LSevenTable$Game;I)I" } : Jvm.MethodName)) ∈ lw_all := lw_g (lw_at lw_m6 129 rfl) rfl
theorem q1447 : (Jvm.Cond.instanceMethod ({ cls := "SevenTable$Most", name := "asks", desc := "(LSevenTable$Game;I)I" } : Jvm.MethodName)) ∈ lw_all := lw_g (lw_at lw_m6 130 rfl) rfl
theorem q1448 : (Jvm.Cond.code ({ cls := "SevenTable$Most", name := "asks", desc := "(LSevenTable$Game;I)I" } : Jvm.MethodName) prog_13_method_2_code (6 : Nat) (Option.some Jvm.ClassFile.FieldType.int)) ∈ lw_all := lw_g (lw_at lw_m6 131 rfl) rfl
theorem q1449 : (Jvm.Cond.methodLink "SevenTable$Most" (19 : Nat) ({ cls := "SevenTable$Table", name := "many", desc := "()I" } : Jvm.MethodName)) ∈ lw_all := lw_g (lw_at lw_m6 132 rfl) rfl
theorem q1450 : (Jvm.Cond.methodLink "SevenTable$Most" (25 : Nat) ({ cls := "SevenTable$Game", name := "size", desc := "(I)I" } : Jvm.MethodName)) ∈ lw_all := lw_g (lw_at lw_m6 133 rfl) rfl
theorem q2502 : (Jvm.Cond.castable "SevenTable$Most" "java/lang/Object") ∈ lw_tbl := lw_at lw_m10 225 rfl
theorem q2520 : (Jvm.Cond.castable "SevenTable$Most" "SevenTable$Bent") ∈ lw_tbl := lw_at lw_m11 3 rfl
/-! SevenTable$Latest -/
set_option maxRecDepth 100000
def RX9 : String := "SevenTable$Latest"
abbrev cX9_init : ByteArray := prog_11_method_1_code
def yX9_init : MethodName := ⟨RX9, "<init>", "()V"⟩
theorem dX9_init_0 : decode cX9_init 0 = .ok (.aload_n 0, 1) := by decide +kernel
theorem dX9_init_1 : decode cX9_init 1 = .ok (.invokespecial 3, 3) := by decide +kernel
theorem dX9_init_4 : decode cX9_init 4 = .ok (.return_, 1) := by decide +kernel
abbrev cX9_asks : ByteArray := prog_11_method_2_code
def yX9_asks : MethodName := ⟨RX9, "asks", "(LSevenTable$Game;I)I"⟩
def dkwX9_asks_1 : List UInt8 := [28, 29, 184, 0, 19, 167, 0, 8, 43, 28, 184, 0, 25, 172]
abbrev dktX9_asks_1 : List UInt8 := dkwX9_asks_1 ++ []
def dkwX9_asks_0 : List UInt8 := [43, 180, 0, 9, 28, 46, 62, 29, 2, 159, 0, 23, 43, 180, 0, 15, 28, 50, 29, 46, 158, 0, 12, 43]
abbrev dktX9_asks_0 : List UInt8 := dkwX9_asks_0 ++ dktX9_asks_1
theorem dksX9_asks_0 : cX9_asks.data.toList.drop 0 = dktX9_asks_0 := by decide +kernel
theorem dksX9_asks_1 : cX9_asks.data.toList.drop 24 = dktX9_asks_1 := dk_seg dksX9_asks_0 24 rfl rfl
theorem dX9_asks_0 : decode cX9_asks 0 = .ok (.aload_n 1, 1) := dk_43 (dk_at dksX9_asks_0 0 rfl rfl)
theorem dX9_asks_1 : decode cX9_asks 1 = .ok (.getfield 9, 3) := dk_180 0 9 (dk_at dksX9_asks_0 1 rfl rfl)
theorem dX9_asks_4 : decode cX9_asks 4 = .ok (.iload_n 2, 1) := dk_28 (dk_at dksX9_asks_0 4 rfl rfl)
theorem dX9_asks_5 : decode cX9_asks 5 = .ok (.iaload, 1) := dk_46 (dk_at dksX9_asks_0 5 rfl rfl)
theorem dX9_asks_6 : decode cX9_asks 6 = .ok (.istore_n 3, 1) := dk_62 (dk_at dksX9_asks_0 6 rfl rfl)
theorem dX9_asks_7 : decode cX9_asks 7 = .ok (.iload_n 3, 1) := dk_29 (dk_at dksX9_asks_0 7 rfl rfl)
theorem dX9_asks_8 : decode cX9_asks 8 = .ok (.iconst (-1), 1) := dk_2 (dk_at dksX9_asks_0 8 rfl rfl)
theorem dX9_asks_9 : decode cX9_asks 9 = .ok (.if_icmp .eq 23, 3) := dk_159 0 23 (dk_at dksX9_asks_0 9 rfl rfl)
theorem dX9_asks_12 : decode cX9_asks 12 = .ok (.aload_n 1, 1) := dk_43 (dk_at dksX9_asks_0 12 rfl rfl)
theorem dX9_asks_13 : decode cX9_asks 13 = .ok (.getfield 15, 3) := dk_180 0 15 (dk_at dksX9_asks_0 13 rfl rfl)
theorem dX9_asks_16 : decode cX9_asks 16 = .ok (.iload_n 2, 1) := dk_28 (dk_at dksX9_asks_0 16 rfl rfl)
theorem dX9_asks_17 : decode cX9_asks 17 = .ok (.aaload, 1) := dk_50 (dk_at dksX9_asks_0 17 rfl rfl)
theorem dX9_asks_18 : decode cX9_asks 18 = .ok (.iload_n 3, 1) := dk_29 (dk_at dksX9_asks_0 18 rfl rfl)
theorem dX9_asks_19 : decode cX9_asks 19 = .ok (.iaload, 1) := dk_46 (dk_at dksX9_asks_0 19 rfl rfl)
theorem dX9_asks_20 : decode cX9_asks 20 = .ok (.ifCond .le 12, 3) := dk_158 0 12 (dk_at dksX9_asks_0 20 rfl rfl)
theorem dX9_asks_23 : decode cX9_asks 23 = .ok (.aload_n 1, 1) := dk_43 (dk_at dksX9_asks_0 23 rfl rfl)
theorem dX9_asks_24 : decode cX9_asks 24 = .ok (.iload_n 2, 1) := dk_28 (dk_at dksX9_asks_1 0 rfl rfl)
theorem dX9_asks_25 : decode cX9_asks 25 = .ok (.iload_n 3, 1) := dk_29 (dk_at dksX9_asks_1 1 rfl rfl)
theorem dX9_asks_26 : decode cX9_asks 26 = .ok (.invokestatic 19, 3) := dk_184 0 19 (dk_at dksX9_asks_1 2 rfl rfl)
theorem dX9_asks_29 : decode cX9_asks 29 = .ok (.goto 8, 3) := dk_167 0 8 (dk_at dksX9_asks_1 5 rfl rfl)
theorem dX9_asks_32 : decode cX9_asks 32 = .ok (.aload_n 1, 1) := dk_43 (dk_at dksX9_asks_1 8 rfl rfl)
theorem dX9_asks_33 : decode cX9_asks 33 = .ok (.iload_n 2, 1) := dk_28 (dk_at dksX9_asks_1 9 rfl rfl)
theorem dX9_asks_34 : decode cX9_asks 34 = .ok (.invokestatic 25, 3) := dk_184 0 25 (dk_at dksX9_asks_1 10 rfl rfl)
theorem dX9_asks_37 : decode cX9_asks 37 = .ok (.ireturn, 1) := dk_172 (dk_at dksX9_asks_1 13 rfl rfl)
theorem q132 : (Jvm.Cond.initialized "SevenTable$Latest") ∈ lw_all := lw_g (lw_at lw_m1 15 rfl) rfl
theorem q265 : (Jvm.Cond.fieldLinkNest "SevenTable$Latest" (15 : Nat) "SevenTable$Game" "hand" "[[I" "SevenTable") ∈ lw_tbl := lw_at lw_m1 148 rfl
theorem q289 : (Jvm.Cond.fieldLinkNest "SevenTable$Latest" (9 : Nat) "SevenTable$Game" "drew" "[I" "SevenTable") ∈ lw_tbl := lw_at lw_m1 172 rfl
theorem q484 : (Jvm.Cond.instantiable "SevenTable$Latest" (0 : Nat)) ∈ lw_all := lw_g (lw_at lw_m2 127 rfl) rfl
theorem q486 : (Jvm.Cond.instanceMethod ({ cls := "SevenTable$Latest", name := "<init>", desc := "()V" } : Jvm.MethodName)) ∈ lw_all := lw_g (lw_at lw_m2 129 rfl) rfl
theorem q487 : (Jvm.Cond.code ({ cls := "SevenTable$Latest", name := "<init>", desc := "()V" } : Jvm.MethodName) prog_11_method_1_code (1 : Nat) (Option.none : Option Jvm.ClassFile.FieldType)) ∈ lw_all := lw_g (lw_at lw_m2 130 rfl) rfl
theorem q488 : (Jvm.Cond.methodLinkNest "SevenTable$Latest" (3 : Nat) ({ cls := "SevenTable$Bent", name := "<init>", desc := "()V" } : Jvm.MethodName) "SevenTable") ∈ lw_tbl := lw_at lw_m2 131 rfl
theorem q489 : (Jvm.Cond.superclass "SevenTable$Latest" "SevenTable$Bent") ∈ lw_all := lw_g (lw_at lw_m2 132 rfl) rfl
theorem q1086 : (Jvm.Cond.selects "SevenTable$Latest" ({ cls := "java/lang/Object", name := "equals", desc := "(Ljava/lang/Object;)Z" } : Jvm.MethodName) ({ cls := "java/lang/Object", name := "equals", desc := "(Ljava/lang/Object;)Z" } : Jvm.MethodName)) ∈ lw_all := lw_g (lw_at lw_m5 9 rfl) rfl
theorem q1131 : (Jvm.Cond.selects "SevenTable$Latest" ({ cls := "java/lang/Object", name := "getClass", desc := "()Ljava/lang/Class;" } : Jvm.MethodName) ({ cls := "java/lang/Object", name := "getClass", desc := "()Ljava/lang/Class;" } : Jvm.MethodName)) ∈ lw_all := lw_g (lw_at lw_m5 54 rfl) rfl
theorem q1434 : (Jvm.Cond.selects "SevenTable$Latest" ({ cls := "SevenTable$Bent", name := "asks", desc := "(LSevenTable$Game;I)I" } : Jvm.MethodName) ({ cls := "SevenTable$Latest", name := "asks", desc := "(LSevenTable$Game;I)I" } : Jvm.MethodName)) ∈ lw_all := lw_g (lw_at lw_m6 117 rfl) rfl
theorem q1435 : (Jvm.Cond.instanceMethod ({ cls := "SevenTable$Latest", name := "asks", desc := "(LSevenTable$Game;I)I" } : Jvm.MethodName)) ∈ lw_all := lw_g (lw_at lw_m6 118 rfl) rfl
theorem q1436 : (Jvm.Cond.code ({ cls := "SevenTable$Latest", name := "asks", desc := "(LSevenTable$Game;I)I" } : Jvm.MethodName) prog_11_method_2_code (4 : Nat) (Option.some Jvm.ClassFile.FieldType.int)) ∈ lw_all := lw_g (lw_at lw_m6 119 rfl) rfl
theorem q1437 : (Jvm.Cond.methodLink "SevenTable$Latest" (19 : Nat) ({ cls := "SevenTable$Latest", name := "ask", desc := "(LSevenTable$Game;II)I" } : Jvm.MethodName)) ∈ lw_all := lw_g (lw_at lw_m6 120 rfl) rfl
theorem q1438 : (Jvm.Cond.sameMethod "SevenTable$Latest" "SevenTable$Bent" "ask" "(LSevenTable$Game;II)I") ∈ lw_all := lw_g (lw_at lw_m6 121 rfl) rfl
theorem q1439 : (Jvm.Cond.methodLink "SevenTable$Latest" (25 : Nat) ({ cls := "SevenTable$Latest", name := "least", desc := "(LSevenTable$Game;I)I" } : Jvm.MethodName)) ∈ lw_all := lw_g (lw_at lw_m6 122 rfl) rfl
theorem q1440 : (Jvm.Cond.sameMethod "SevenTable$Latest" "SevenTable$Bent" "least" "(LSevenTable$Game;I)I") ∈ lw_all := lw_g (lw_at lw_m6 123 rfl) rfl
theorem q2503 : (Jvm.Cond.castable "SevenTable$Latest" "java/lang/Object") ∈ lw_tbl := lw_at lw_m10 226 rfl
theorem q2521 : (Jvm.Cond.castable "SevenTable$Latest" "SevenTable$Bent") ∈ lw_tbl := lw_at lw_m11 4 rfl
/-! SevenTable$Kept -/
set_option maxRecDepth 100000
def RX10 : String := "SevenTable$Kept"
def TX10 : u_T := fun k => match k with
  | 0 => ("SevenTable$Kept", "table", "LSevenTable$Table;", false)
  | 1 => ("SevenTable$Kept", "sentence", "LSevenTable$Cond;", false)
  | _ => ("SevenTable$Kept", "game", "LSevenTable$Game;", true)
def tyX10 : Nat → FieldType := fun k => match k with
  | 0 => .object "SevenTable$Table"
  | 1 => .object "SevenTable$Cond"
  | _ => .object "SevenTable$Game"
abbrev wsX100 : List Cond := u_ws RX10 TX10 3
theorem nmX10 : ∀ a, a < 3 → ∀ b, b < 3 → a ≠ b → (TX10 a).2.1 ≠ (TX10 b).2.1 := by decide +kernel
theorem tyX10_ok : ∀ k, k < 3 → parseFieldDescriptor (TX10 k).2.2.1 = some (tyX10 k) := by decide +kernel
abbrev cX10_init : ByteArray := prog_9_method_1_code
def yX10_init : MethodName := ⟨RX10, "<init>", "()V"⟩
def dkwX10_init_0 : List UInt8 := [42, 183, 0, 1, 42, 187, 0, 7, 89, 183, 0, 9, 181, 0, 10, 177]
abbrev dktX10_init_0 : List UInt8 := dkwX10_init_0 ++ []
theorem dksX10_init_0 : cX10_init.data.toList.drop 0 = dktX10_init_0 := by decide +kernel
theorem dX10_init_0 : decode cX10_init 0 = .ok (.aload_n 0, 1) := dk_42 (dk_at dksX10_init_0 0 rfl rfl)
theorem dX10_init_1 : decode cX10_init 1 = .ok (.invokespecial 1, 3) := dk_183 0 1 (dk_at dksX10_init_0 1 rfl rfl)
theorem dX10_init_4 : decode cX10_init 4 = .ok (.aload_n 0, 1) := dk_42 (dk_at dksX10_init_0 4 rfl rfl)
theorem dX10_init_5 : decode cX10_init 5 = .ok (.new 7, 3) := dk_187 0 7 (dk_at dksX10_init_0 5 rfl rfl)
theorem dX10_init_8 : decode cX10_init 8 = .ok (.dup, 1) := dk_89 (dk_at dksX10_init_0 8 rfl rfl)
theorem dX10_init_9 : decode cX10_init 9 = .ok (.invokespecial 9, 3) := dk_183 0 9 (dk_at dksX10_init_0 9 rfl rfl)
theorem dX10_init_12 : decode cX10_init 12 = .ok (.putfield 10, 3) := dk_181 0 10 (dk_at dksX10_init_0 12 rfl rfl)
theorem dX10_init_15 : decode cX10_init 15 = .ok (.return_, 1) := dk_177 (dk_at dksX10_init_0 15 rfl rfl)
theorem q133 : (Jvm.Cond.initialized "SevenTable$Kept") ∈ lw_all := lw_g (lw_at lw_m1 16 rfl) rfl
theorem q492 : (Jvm.Cond.instantiable "SevenTable$Kept" (3 : Nat)) ∈ lw_all := lw_g (lw_at lw_m2 135 rfl) rfl
theorem q494 : (Jvm.Cond.instanceMethod ({ cls := "SevenTable$Kept", name := "<init>", desc := "()V" } : Jvm.MethodName)) ∈ lw_all := lw_g (lw_at lw_m2 137 rfl) rfl
theorem q495 : (Jvm.Cond.code ({ cls := "SevenTable$Kept", name := "<init>", desc := "()V" } : Jvm.MethodName) prog_9_method_1_code (1 : Nat) (Option.none : Option Jvm.ClassFile.FieldType)) ∈ lw_all := lw_g (lw_at lw_m2 138 rfl) rfl
theorem q496 : (Jvm.Cond.methodLink "SevenTable$Kept" (1 : Nat) ({ cls := "java/lang/Object", name := "<init>", desc := "()V" } : Jvm.MethodName)) ∈ lw_all := lw_g (lw_at lw_m2 139 rfl) rfl
theorem q497 : (Jvm.Cond.classLink "SevenTable$Kept" (7 : Nat) "SevenTable$Game") ∈ lw_all := lw_g (lw_at lw_m2 140 rfl) rfl
theorem q498 : (Jvm.Cond.methodLinkNest "SevenTable$Kept" (9 : Nat) ({ cls := "SevenTable$Game", name := "<init>", desc := "()V" } : Jvm.MethodName) "SevenTable") ∈ lw_tbl := lw_at lw_m2 141 rfl
theorem q501 : (Jvm.Cond.fieldLink "SevenTable$Kept" (10 : Nat) "SevenTable$Kept" "game" "LSevenTable$Game;") ∈ lw_all := lw_g (lw_at lw_m2 144 rfl) rfl
theorem q503 : (Jvm.Cond.lays "SevenTable$Kept" "SevenTable$Kept" "table" "LSevenTable$Table;") ∈ lw_all := lw_g (lw_at lw_m2 146 rfl) rfl
theorem q504 : (Jvm.Cond.soleField "SevenTable$Kept" "table") ∈ lw_all := lw_g (lw_at lw_m2 147 rfl) rfl
theorem q505 : (Jvm.Cond.lays "SevenTable$Kept" "SevenTable$Kept" "sentence" "LSevenTable$Cond;") ∈ lw_all := lw_g (lw_at lw_m2 148 rfl) rfl
theorem q506 : (Jvm.Cond.soleField "SevenTable$Kept" "sentence") ∈ lw_all := lw_g (lw_at lw_m2 149 rfl) rfl
theorem q507 : (Jvm.Cond.laysFinal "SevenTable$Kept" "SevenTable$Kept" "game" "LSevenTable$Game;") ∈ lw_all := lw_g (lw_at lw_m2 150 rfl) rfl
theorem q508 : (Jvm.Cond.soleField "SevenTable$Kept" "game") ∈ lw_all := lw_g (lw_at lw_m2 151 rfl) rfl
theorem q509 : (Jvm.Cond.superclass "SevenTable$Kept" "java/lang/Object") ∈ lw_all := lw_g (lw_at lw_m2 152 rfl) rfl
theorem q1084 : (Jvm.Cond.selects "SevenTable$Kept" ({ cls := "java/lang/Object", name := "equals", desc := "(Ljava/lang/Object;)Z" } : Jvm.MethodName) ({ cls := "java/lang/Object", name := "equals", desc := "(Ljava/lang/Object;)Z" } : Jvm.MethodName)) ∈ lw_all := lw_g (lw_at lw_m5 7 rfl) rfl
theorem q1129 : (Jvm.Cond.selects "SevenTable$Kept" ({ cls := "java/lang/Object", name := "getClass", desc := "()Ljava/lang/Class;" } : Jvm.MethodName) ({ cls := "java/lang/Object", name := "getClass", desc := "()Ljava/lang/Class;" } : Jvm.MethodName)) ∈ lw_all := lw_g (lw_at lw_m5 52 rfl) rfl
theorem q2495 : (Jvm.Cond.castable "SevenTable$Kept" "java/lang/Object") ∈ lw_tbl := lw_at lw_m10 218 rfl
theorem in_X10 : ∀ w ∈ wsX100, w ∈ lw_all := lw_in wsX100 [503, 505, 507] (by decide +kernel) (by decide +kernel)
/-! SevenTable$Reader -/
set_option maxRecDepth 100000
def RX12 : String := "SevenTable$Reader"
abbrev cX12_init : ByteArray := prog_16_method_1_code
def yX12_init : MethodName := ⟨RX12, "<init>", "([BII)V"⟩
def dkwX12_init_1 : List UInt8 := [181, 0, 25, 177]
abbrev dktX12_init_1 : List UInt8 := dkwX12_init_1 ++ []
def dkwX12_init_0 : List UInt8 := [42, 183, 0, 3, 42, 18, 9, 181, 0, 11, 42, 43, 181, 0, 17, 42, 28, 181, 0, 21, 42, 29]
abbrev dktX12_init_0 : List UInt8 := dkwX12_init_0 ++ dktX12_init_1
theorem dksX12_init_0 : cX12_init.data.toList.drop 0 = dktX12_init_0 := by decide +kernel
theorem dksX12_init_1 : cX12_init.data.toList.drop 22 = dktX12_init_1 := dk_seg dksX12_init_0 22 rfl rfl
theorem dX12_init_0 : decode cX12_init 0 = .ok (.aload_n 0, 1) := dk_42 (dk_at dksX12_init_0 0 rfl rfl)
theorem dX12_init_1 : decode cX12_init 1 = .ok (.invokespecial 3, 3) := dk_183 0 3 (dk_at dksX12_init_0 1 rfl rfl)
theorem dX12_init_4 : decode cX12_init 4 = .ok (.aload_n 0, 1) := dk_42 (dk_at dksX12_init_0 4 rfl rfl)
theorem dX12_init_5 : decode cX12_init 5 = .ok (.ldc 9, 2) := dk_18 9 (dk_at dksX12_init_0 5 rfl rfl)
theorem dX12_init_7 : decode cX12_init 7 = .ok (.putfield 11, 3) := dk_181 0 11 (dk_at dksX12_init_0 7 rfl rfl)
theorem dX12_init_10 : decode cX12_init 10 = .ok (.aload_n 0, 1) := dk_42 (dk_at dksX12_init_0 10 rfl rfl)
theorem dX12_init_11 : decode cX12_init 11 = .ok (.aload_n 1, 1) := dk_43 (dk_at dksX12_init_0 11 rfl rfl)
theorem dX12_init_12 : decode cX12_init 12 = .ok (.putfield 17, 3) := dk_181 0 17 (dk_at dksX12_init_0 12 rfl rfl)
theorem dX12_init_15 : decode cX12_init 15 = .ok (.aload_n 0, 1) := dk_42 (dk_at dksX12_init_0 15 rfl rfl)
theorem dX12_init_16 : decode cX12_init 16 = .ok (.iload_n 2, 1) := dk_28 (dk_at dksX12_init_0 16 rfl rfl)
theorem dX12_init_17 : decode cX12_init 17 = .ok (.putfield 21, 3) := dk_181 0 21 (dk_at dksX12_init_0 17 rfl rfl)
theorem dX12_init_20 : decode cX12_init 20 = .ok (.aload_n 0, 1) := dk_42 (dk_at dksX12_init_0 20 rfl rfl)
theorem dX12_init_21 : decode cX12_init 21 = .ok (.iload_n 3, 1) := dk_29 (dk_at dksX12_init_0 21 rfl rfl)
theorem dX12_init_22 : decode cX12_init 22 = .ok (.putfield 25, 3) := dk_181 0 25 (dk_at dksX12_init_1 0 rfl rfl)
theorem dX12_init_25 : decode cX12_init 25 = .ok (.return_, 1) := dk_177 (dk_at dksX12_init_1 3 rfl rfl)
abbrev cX12_go : ByteArray := prog_16_method_5_code
def yX12_go : MethodName := ⟨RX12, "go", "()V"⟩
def dkwX12_go_17 : List UInt8 := [153, 0, 7, 5, 167, 0, 4, 6, 181, 0, 38, 177]
abbrev dktX12_go_17 : List UInt8 := dkwX12_go_17 ++ []
def dkwX12_go_16 : List UInt8 := [180, 0, 35, 100, 28, 153, 0, 8, 16, 7, 167, 0, 4, 6, 164, 0, 7, 4, 167, 0, 12, 28]
abbrev dktX12_go_16 : List UInt8 := dkwX12_go_16 ++ dktX12_go_17
def dkwX12_go_15 : List UInt8 := [167, 255, 128, 42, 25, 4, 182, 0, 61, 181, 0, 11, 42, 29, 153, 0, 25, 42, 180, 0, 28, 42]
abbrev dktX12_go_15 : List UInt8 := dkwX12_go_15 ++ dktX12_go_16
def dkwX12_go_14 : List UInt8 := [180, 0, 28, 182, 0, 31, 96, 16, 48, 100, 181, 0, 51, 42, 89, 180, 0, 28, 4, 96, 181, 0, 28]
abbrev dktX12_go_14 : List UInt8 := dkwX12_go_14 ++ dktX12_go_15
def dkwX12_go_13 : List UInt8 := [42, 180, 0, 28, 42, 180, 0, 35, 100, 6, 162, 0, 26, 42, 16, 10, 42, 180, 0, 51, 104, 42, 42]
abbrev dktX12_go_13 : List UInt8 := dkwX12_go_13 ++ dktX12_go_14
def dkwX12_go_12 : List UInt8 := [180, 0, 35, 100, 16, 7, 162, 0, 18, 25, 4, 42, 42, 180, 0, 28, 182, 0, 31, 146, 182, 0, 57, 87]
abbrev dktX12_go_12 : List UInt8 := dkwX12_go_12 ++ dktX12_go_13
def dkwX12_go_11 : List UInt8 := [180, 0, 28, 182, 0, 31, 184, 0, 41, 28, 160, 0, 7, 4, 167, 0, 4, 3, 62, 42, 180, 0, 28, 42]
abbrev dktX12_go_11 : List UInt8 := dkwX12_go_11 ++ dktX12_go_12
def dkwX12_go_10 : List UInt8 := [154, 0, 17, 42, 42, 180, 0, 28, 182, 0, 31, 184, 0, 45, 153, 0, 106, 29, 153, 0, 22, 42, 42]
abbrev dktX12_go_10 : List UInt8 := dkwX12_go_10 ++ dktX12_go_11
def dkwX12_go_9 : List UInt8 := [3, 181, 0, 51, 187, 0, 54, 89, 183, 0, 56, 58, 4, 42, 42, 180, 0, 28, 182, 0, 31, 184, 0, 41]
abbrev dktX12_go_9 : List UInt8 := dkwX12_go_9 ++ dktX12_go_10
def dkwX12_go_8 : List UInt8 := [42, 27, 181, 0, 48, 42, 89, 180, 0, 28, 4, 96, 181, 0, 28, 177, 27, 184, 0, 41, 61, 4, 62, 42]
abbrev dktX12_go_8 : List UInt8 := dkwX12_go_8 ++ dktX12_go_9
def dkwX12_go_7 : List UInt8 := [159, 0, 15, 27, 16, 40, 159, 0, 9, 27, 16, 41, 160, 0, 8, 16, 6, 167, 0, 4, 4, 181, 0, 38]
abbrev dktX12_go_7 : List UInt8 := dkwX12_go_7 ++ dktX12_go_8
def dkwX12_go_6 : List UInt8 := [160, 0, 7, 7, 167, 0, 39, 27, 16, 60, 159, 0, 27, 27, 16, 61, 159, 0, 21, 27, 16, 62]
abbrev dktX12_go_6 : List UInt8 := dkwX12_go_6 ++ dktX12_go_7
def dkwX12_go_5 : List UInt8 := [182, 0, 31, 60, 27, 184, 0, 41, 154, 0, 76, 27, 184, 0, 45, 154, 0, 69, 42, 27, 16, 59]
abbrev dktX12_go_5 : List UInt8 := dkwX12_go_5 ++ dktX12_go_6
def dkwX12_go_4 : List UInt8 := [42, 180, 0, 28, 42, 180, 0, 21, 161, 0, 9, 42, 3, 181, 0, 38, 177, 42, 42, 180, 0, 28]
abbrev dktX12_go_4 : List UInt8 := dkwX12_go_4 ++ dktX12_go_5
def dkwX12_go_3 : List UInt8 := [180, 0, 35, 42, 180, 0, 25, 161, 0, 17, 42, 42, 180, 0, 25, 181, 0, 35, 42, 8, 181, 0, 38, 177]
abbrev dktX12_go_3 : List UInt8 := dkwX12_go_3 ++ dktX12_go_4
def dkwX12_go_2 : List UInt8 := [167, 255, 209, 42, 42, 180, 0, 28, 181, 0, 35, 42, 180, 0, 21, 42, 180, 0, 25, 164, 0, 28, 42]
abbrev dktX12_go_2 : List UInt8 := dkwX12_go_2 ++ dktX12_go_3
def dkwX12_go_1 : List UInt8 := [42, 42, 180, 0, 28, 182, 0, 31, 16, 10, 160, 0, 16, 42, 89, 180, 0, 28, 4, 96, 181, 0, 28]
abbrev dktX12_go_1 : List UInt8 := dkwX12_go_1 ++ dktX12_go_2
def dkwX12_go_0 : List UInt8 := [42, 180, 0, 28, 42, 180, 0, 21, 162, 0, 42, 42, 42, 180, 0, 28, 182, 0, 31, 16, 32, 159, 0, 16]
abbrev dktX12_go_0 : List UInt8 := dkwX12_go_0 ++ dktX12_go_1
theorem dksX12_go_0 : cX12_go.data.toList.drop 0 = dktX12_go_0 := by decide +kernel
theorem dksX12_go_1 : cX12_go.data.toList.drop 24 = dktX12_go_1 := dk_seg dksX12_go_0 24 rfl rfl
theorem dksX12_go_2 : cX12_go.data.toList.drop 47 = dktX12_go_2 := dk_seg dksX12_go_1 23 rfl rfl
theorem dksX12_go_3 : cX12_go.data.toList.drop 70 = dktX12_go_3 := dk_seg dksX12_go_2 23 rfl rfl
theorem dksX12_go_4 : cX12_go.data.toList.drop 94 = dktX12_go_4 := dk_seg dksX12_go_3 24 rfl rfl
theorem dksX12_go_5 : cX12_go.data.toList.drop 116 = dktX12_go_5 := dk_seg dksX12_go_4 22 rfl rfl
theorem dksX12_go_6 : cX12_go.data.toList.drop 138 = dktX12_go_6 := dk_seg dksX12_go_5 22 rfl rfl
theorem dksX12_go_7 : cX12_go.data.toList.drop 160 = dktX12_go_7 := dk_seg dksX12_go_6 22 rfl rfl
theorem dksX12_go_8 : cX12_go.data.toList.drop 184 = dktX12_go_8 := dk_seg dksX12_go_7 24 rfl rfl
theorem dksX12_go_9 : cX12_go.data.toList.drop 208 = dktX12_go_9 := dk_seg dksX12_go_8 24 rfl rfl
theorem dksX12_go_10 : cX12_go.data.toList.drop 232 = dktX12_go_10 := dk_seg dksX12_go_9 24 rfl rfl
theorem dksX12_go_11 : cX12_go.data.toList.drop 255 = dktX12_go_11 := dk_seg dksX12_go_10 23 rfl rfl
theorem dksX12_go_12 : cX12_go.data.toList.drop 279 = dktX12_go_12 := dk_seg dksX12_go_11 24 rfl rfl
theorem dksX12_go_13 : cX12_go.data.toList.drop 303 = dktX12_go_13 := dk_seg dksX12_go_12 24 rfl rfl
theorem dksX12_go_14 : cX12_go.data.toList.drop 326 = dktX12_go_14 := dk_seg dksX12_go_13 23 rfl rfl
theorem dksX12_go_15 : cX12_go.data.toList.drop 349 = dktX12_go_15 := dk_seg dksX12_go_14 23 rfl rfl
theorem dksX12_go_16 : cX12_go.data.toList.drop 371 = dktX12_go_16 := dk_seg dksX12_go_15 22 rfl rfl
theorem dksX12_go_17 : cX12_go.data.toList.drop 393 = dktX12_go_17 := dk_seg dksX12_go_16 22 rfl rfl
theorem dX12_go_0 : decode cX12_go 0 = .ok (.aload_n 0, 1) := dk_42 (dk_at dksX12_go_0 0 rfl rfl)
theorem dX12_go_1 : decode cX12_go 1 = .ok (.getfield 28, 3) := dk_180 0 28 (dk_at dksX12_go_0 1 rfl rfl)
theorem dX12_go_4 : decode cX12_go 4 = .ok (.aload_n 0, 1) := dk_42 (dk_at dksX12_go_0 4 rfl rfl)
theorem dX12_go_5 : decode cX12_go 5 = .ok (.getfield 21, 3) := dk_180 0 21 (dk_at dksX12_go_0 5 rfl rfl)
theorem dX12_go_8 : decode cX12_go 8 = .ok (.if_icmp .ge 42, 3) := dk_162 0 42 (dk_at dksX12_go_0 8 rfl rfl)
theorem dX12_go_11 : decode cX12_go 11 = .ok (.aload_n 0, 1) := dk_42 (dk_at dksX12_go_0 11 rfl rfl)
theorem dX12_go_12 : decode cX12_go 12 = .ok (.aload_n 0, 1) := dk_42 (dk_at dksX12_go_0 12 rfl rfl)
theorem dX12_go_13 : decode cX12_go 13 = .ok (.getfield 28, 3) := dk_180 0 28 (dk_at dksX12_go_0 13 rfl rfl)
theorem dX12_go_16 : decode cX12_go 16 = .ok (.invokevirtual 31, 3) := dk_182 0 31 (dk_at dksX12_go_0 16 rfl rfl)
theorem dX12_go_19 : decode cX12_go 19 = .ok (.bipush 32, 2) := dk_16 32 (dk_at dksX12_go_0 19 rfl rfl)
theorem dX12_go_21 : decode cX12_go 21 = .ok (.if_icmp .eq 16, 3) := dk_159 0 16 (dk_at dksX12_go_0 21 rfl rfl)
theorem dX12_go_24 : decode cX12_go 24 = .ok (.aload_n 0, 1) := dk_42 (dk_at dksX12_go_1 0 rfl rfl)
theorem dX12_go_25 : decode cX12_go 25 = .ok (.aload_n 0, 1) := dk_42 (dk_at dksX12_go_1 1 rfl rfl)
theorem dX12_go_26 : decode cX12_go 26 = .ok (.getfield 28, 3) := dk_180 0 28 (dk_at dksX12_go_1 2 rfl rfl)
theorem dX12_go_29 : decode cX12_go 29 = .ok (.invokevirtual 31, 3) := dk_182 0 31 (dk_at dksX12_go_1 5 rfl rfl)
theorem dX12_go_32 : decode cX12_go 32 = .ok (.bipush 10, 2) := dk_16 10 (dk_at dksX12_go_1 8 rfl rfl)
theorem dX12_go_34 : decode cX12_go 34 = .ok (.if_icmp .ne 16, 3) := dk_160 0 16 (dk_at dksX12_go_1 10 rfl rfl)
theorem dX12_go_37 : decode cX12_go 37 = .ok (.aload_n 0, 1) := dk_42 (dk_at dksX12_go_1 13 rfl rfl)
theorem dX12_go_38 : decode cX12_go 38 = .ok (.dup, 1) := dk_89 (dk_at dksX12_go_1 14 rfl rfl)
theorem dX12_go_39 : decode cX12_go 39 = .ok (.getfield 28, 3) := dk_180 0 28 (dk_at dksX12_go_1 15 rfl rfl)
theorem dX12_go_42 : decode cX12_go 42 = .ok (.iconst 1, 1) := dk_4 (dk_at dksX12_go_1 18 rfl rfl)
theorem dX12_go_43 : decode cX12_go 43 = .ok (.iadd, 1) := dk_96 (dk_at dksX12_go_1 19 rfl rfl)
theorem dX12_go_44 : decode cX12_go 44 = .ok (.putfield 28, 3) := dk_181 0 28 (dk_at dksX12_go_1 20 rfl rfl)
theorem dX12_go_47 : decode cX12_go 47 = .ok (.goto (-47), 3) := dk_167 255 209 (dk_at dksX12_go_2 0 rfl rfl)
theorem dX12_go_50 : decode cX12_go 50 = .ok (.aload_n 0, 1) := dk_42 (dk_at dksX12_go_2 3 rfl rfl)
theorem dX12_go_51 : decode cX12_go 51 = .ok (.aload_n 0, 1) := dk_42 (dk_at dksX12_go_2 4 rfl rfl)
theorem dX12_go_52 : decode cX12_go 52 = .ok (.getfield 28, 3) := dk_180 0 28 (dk_at dksX12_go_2 5 rfl rfl)
theorem dX12_go_55 : decode cX12_go 55 = .ok (.putfield 35, 3) := dk_181 0 35 (dk_at dksX12_go_2 8 rfl rfl)
theorem dX12_go_58 : decode cX12_go 58 = .ok (.aload_n 0, 1) := dk_42 (dk_at dksX12_go_2 11 rfl rfl)
theorem dX12_go_59 : decode cX12_go 59 = .ok (.getfield 21, 3) := dk_180 0 21 (dk_at dksX12_go_2 12 rfl rfl)
theorem dX12_go_62 : decode cX12_go 62 = .ok (.aload_n 0, 1) := dk_42 (dk_at dksX12_go_2 15 rfl rfl)
theorem dX12_go_63 : decode cX12_go 63 = .ok (.getfield 25, 3) := dk_180 0 25 (dk_at dksX12_go_2 16 rfl rfl)
theorem dX12_go_66 : decode cX12_go 66 = .ok (.if_icmp .le 28, 3) := dk_164 0 28 (dk_at dksX12_go_2 19 rfl rfl)
theorem dX12_go_69 : decode cX12_go 69 = .ok (.aload_n 0, 1) := dk_42 (dk_at dksX12_go_2 22 rfl rfl)
theorem dX12_go_70 : decode cX12_go 70 = .ok (.getfield 35, 3) := dk_180 0 35 (dk_at dksX12_go_3 0 rfl rfl)
theorem dX12_go_73 : decode cX12_go 73 = .ok (.aload_n 0, 1) := dk_42 (dk_at dksX12_go_3 3 rfl rfl)
theorem dX12_go_74 : decode cX12_go 74 = .ok (.getfield 25, 3) := dk_180 0 25 (dk_at dksX12_go_3 4 rfl rfl)
theorem dX12_go_77 : decode cX12_go 77 = .ok (.if_icmp .lt 17, 3) := dk_161 0 17 (dk_at dksX12_go_3 7 rfl rfl)
theorem dX12_go_80 : decode cX12_go 80 = .ok (.aload_n 0, 1) := dk_42 (dk_at dksX12_go_3 10 rfl rfl)
theorem dX12_go_81 : decode cX12_go 81 = .ok (.aload_n 0, 1) := dk_42 (dk_at dksX12_go_3 11 rfl rfl)
theorem dX12_go_82 : decode cX12_go 82 = .ok (.getfield 25, 3) := dk_180 0 25 (dk_at dksX12_go_3 12 rfl rfl)
theorem dX12_go_85 : decode cX12_go 85 = .ok (.putfield 35, 3) := dk_181 0 35 (dk_at dksX12_go_3 15 rfl rfl)
theorem dX12_go_88 : decode cX12_go 88 = .ok (.aload_n 0, 1) := dk_42 (dk_at dksX12_go_3 18 rfl rfl)
theorem dX12_go_89 : decode cX12_go 89 = .ok (.iconst 5, 1) := dk_8 (dk_at dksX12_go_3 19 rfl rfl)
theorem dX12_go_90 : decode cX12_go 90 = .ok (.putfield 38, 3) := dk_181 0 38 (dk_at dksX12_go_3 20 rfl rfl)
theorem dX12_go_93 : decode cX12_go 93 = .ok (.return_, 1) := dk_177 (dk_at dksX12_go_3 23 rfl rfl)
theorem dX12_go_94 : decode cX12_go 94 = .ok (.aload_n 0, 1) := dk_42 (dk_at dksX12_go_4 0 rfl rfl)
theorem dX12_go_95 : decode cX12_go 95 = .ok (.getfield 28, 3) := dk_180 0 28 (dk_at dksX12_go_4 1 rfl rfl)
theorem dX12_go_98 : decode cX12_go 98 = .ok (.aload_n 0, 1) := dk_42 (dk_at dksX12_go_4 4 rfl rfl)
theorem dX12_go_99 : decode cX12_go 99 = .ok (.getfield 21, 3) := dk_180 0 21 (dk_at dksX12_go_4 5 rfl rfl)
theorem dX12_go_102 : decode cX12_go 102 = .ok (.if_icmp .lt 9, 3) := dk_161 0 9 (dk_at dksX12_go_4 8 rfl rfl)
theorem dX12_go_105 : decode cX12_go 105 = .ok (.aload_n 0, 1) := dk_42 (dk_at dksX12_go_4 11 rfl rfl)
theorem dX12_go_106 : decode cX12_go 106 = .ok (.iconst 0, 1) := dk_3 (dk_at dksX12_go_4 12 rfl rfl)
theorem dX12_go_107 : decode cX12_go 107 = .ok (.putfield 38, 3) := dk_181 0 38 (dk_at dksX12_go_4 13 rfl rfl)
theorem dX12_go_110 : decode cX12_go 110 = .ok (.return_, 1) := dk_177 (dk_at dksX12_go_4 16 rfl rfl)
theorem dX12_go_111 : decode cX12_go 111 = .ok (.aload_n 0, 1) := dk_42 (dk_at dksX12_go_4 17 rfl rfl)
theorem dX12_go_112 : decode cX12_go 112 = .ok (.aload_n 0, 1) := dk_42 (dk_at dksX12_go_4 18 rfl rfl)
theorem dX12_go_113 : decode cX12_go 113 = .ok (.getfield 28, 3) := dk_180 0 28 (dk_at dksX12_go_4 19 rfl rfl)
theorem dX12_go_116 : decode cX12_go 116 = .ok (.invokevirtual 31, 3) := dk_182 0 31 (dk_at dksX12_go_5 0 rfl rfl)
theorem dX12_go_119 : decode cX12_go 119 = .ok (.istore_n 1, 1) := dk_60 (dk_at dksX12_go_5 3 rfl rfl)
theorem dX12_go_120 : decode cX12_go 120 = .ok (.iload_n 1, 1) := dk_27 (dk_at dksX12_go_5 4 rfl rfl)
theorem dX12_go_121 : decode cX12_go 121 = .ok (.invokestatic 41, 3) := dk_184 0 41 (dk_at dksX12_go_5 5 rfl rfl)
theorem dX12_go_124 : decode cX12_go 124 = .ok (.ifCond .ne 76, 3) := dk_154 0 76 (dk_at dksX12_go_5 8 rfl rfl)
theorem dX12_go_127 : decode cX12_go 127 = .ok (.iload_n 1, 1) := dk_27 (dk_at dksX12_go_5 11 rfl rfl)
theorem dX12_go_128 : decode cX12_go 128 = .ok (.invokestatic 45, 3) := dk_184 0 45 (dk_at dksX12_go_5 12 rfl rfl)
theorem dX12_go_131 : decode cX12_go 131 = .ok (.ifCond .ne 69, 3) := dk_154 0 69 (dk_at dksX12_go_5 15 rfl rfl)
theorem dX12_go_134 : decode cX12_go 134 = .ok (.aload_n 0, 1) := dk_42 (dk_at dksX12_go_5 18 rfl rfl)
theorem dX12_go_135 : decode cX12_go 135 = .ok (.iload_n 1, 1) := dk_27 (dk_at dksX12_go_5 19 rfl rfl)
theorem dX12_go_136 : decode cX12_go 136 = .ok (.bipush 59, 2) := dk_16 59 (dk_at dksX12_go_5 20 rfl rfl)
theorem dX12_go_138 : decode cX12_go 138 = .ok (.if_icmp .ne 7, 3) := dk_160 0 7 (dk_at dksX12_go_6 0 rfl rfl)
theorem dX12_go_141 : decode cX12_go 141 = .ok (.iconst 4, 1) := dk_7 (dk_at dksX12_go_6 3 rfl rfl)
theorem dX12_go_142 : decode cX12_go 142 = .ok (.goto 39, 3) := dk_167 0 39 (dk_at dksX12_go_6 4 rfl rfl)
theorem dX12_go_145 : decode cX12_go 145 = .ok (.iload_n 1, 1) := dk_27 (dk_at dksX12_go_6 7 rfl rfl)
theorem dX12_go_146 : decode cX12_go 146 = .ok (.bipush 60, 2) := dk_16 60 (dk_at dksX12_go_6 8 rfl rfl)
theorem dX12_go_148 : decode cX12_go 148 = .ok (.if_icmp .eq 27, 3) := dk_159 0 27 (dk_at dksX12_go_6 10 rfl rfl)
theorem dX12_go_151 : decode cX12_go 151 = .ok (.iload_n 1, 1) := dk_27 (dk_at dksX12_go_6 13 rfl rfl)
theorem dX12_go_152 : decode cX12_go 152 = .ok (.bipush 61, 2) := dk_16 61 (dk_at dksX12_go_6 14 rfl rfl)
theorem dX12_go_154 : decode cX12_go 154 = .ok (.if_icmp .eq 21, 3) := dk_159 0 21 (dk_at dksX12_go_6 16 rfl rfl)
theorem dX12_go_157 : decode cX12_go 157 = .ok (.iload_n 1, 1) := dk_27 (dk_at dksX12_go_6 19 rfl rfl)
theorem dX12_go_158 : decode cX12_go 158 = .ok (.bipush 62, 2) := dk_16 62 (dk_at dksX12_go_6 20 rfl rfl)
theorem dX12_go_160 : decode cX12_go 160 = .ok (.if_icmp .eq 15, 3) := dk_159 0 15 (dk_at dksX12_go_7 0 rfl rfl)
theorem dX12_go_163 : decode cX12_go 163 = .ok (.iload_n 1, 1) := dk_27 (dk_at dksX12_go_7 3 rfl rfl)
theorem dX12_go_164 : decode cX12_go 164 = .ok (.bipush 40, 2) := dk_16 40 (dk_at dksX12_go_7 4 rfl rfl)
theorem dX12_go_166 : decode cX12_go 166 = .ok (.if_icmp .eq 9, 3) := dk_159 0 9 (dk_at dksX12_go_7 6 rfl rfl)
theorem dX12_go_169 : decode cX12_go 169 = .ok (.iload_n 1, 1) := dk_27 (dk_at dksX12_go_7 9 rfl rfl)
theorem dX12_go_170 : decode cX12_go 170 = .ok (.bipush 41, 2) := dk_16 41 (dk_at dksX12_go_7 10 rfl rfl)
theorem dX12_go_172 : decode cX12_go 172 = .ok (.if_icmp .ne 8, 3) := dk_160 0 8 (dk_at dksX12_go_7 12 rfl rfl)
theorem dX12_go_175 : decode cX12_go 175 = .ok (.bipush 6, 2) := dk_16 6 (dk_at dksX12_go_7 15 rfl rfl)
theorem dX12_go_177 : decode cX12_go 177 = .ok (.goto 4, 3) := dk_167 0 4 (dk_at dksX12_go_7 17 rfl rfl)
theorem dX12_go_180 : decode cX12_go 180 = .ok (.iconst 1, 1) := dk_4 (dk_at dksX12_go_7 20 rfl rfl)
theorem dX12_go_181 : decode cX12_go 181 = .ok (.putfield 38, 3) := dk_181 0 38 (dk_at dksX12_go_7 21 rfl rfl)
theorem dX12_go_184 : decode cX12_go 184 = .ok (.aload_n 0, 1) := dk_42 (dk_at dksX12_go_8 0 rfl rfl)
theorem dX12_go_185 : decode cX12_go 185 = .ok (.iload_n 1, 1) := dk_27 (dk_at dksX12_go_8 1 rfl rfl)
theorem dX12_go_186 : decode cX12_go 186 = .ok (.putfield 48, 3) := dk_181 0 48 (dk_at dksX12_go_8 2 rfl rfl)
theorem dX12_go_189 : decode cX12_go 189 = .ok (.aload_n 0, 1) := dk_42 (dk_at dksX12_go_8 5 rfl rfl)
theorem dX12_go_190 : decode cX12_go 190 = .ok (.dup, 1) := dk_89 (dk_at dksX12_go_8 6 rfl rfl)
theorem dX12_go_191 : decode cX12_go 191 = .ok (.getfield 28, 3) := dk_180 0 28 (dk_at dksX12_go_8 7 rfl rfl)
theorem dX12_go_194 : decode cX12_go 194 = .ok (.iconst 1, 1) := dk_4 (dk_at dksX12_go_8 10 rfl rfl)
theorem dX12_go_195 : decode cX12_go 195 = .ok (.iadd, 1) := dk_96 (dk_at dksX12_go_8 11 rfl rfl)
theorem dX12_go_196 : decode cX12_go 196 = .ok (.putfield 28, 3) := dk_181 0 28 (dk_at dksX12_go_8 12 rfl rfl)
theorem dX12_go_199 : decode cX12_go 199 = .ok (.return_, 1) := dk_177 (dk_at dksX12_go_8 15 rfl rfl)
theorem dX12_go_200 : decode cX12_go 200 = .ok (.iload_n 1, 1) := dk_27 (dk_at dksX12_go_8 16 rfl rfl)
theorem dX12_go_201 : decode cX12_go 201 = .ok (.invokestatic 41, 3) := dk_184 0 41 (dk_at dksX12_go_8 17 rfl rfl)
theorem dX12_go_204 : decode cX12_go 204 = .ok (.istore_n 2, 1) := dk_61 (dk_at dksX12_go_8 20 rfl rfl)
theorem dX12_go_205 : decode cX12_go 205 = .ok (.iconst 1, 1) := dk_4 (dk_at dksX12_go_8 21 rfl rfl)
theorem dX12_go_206 : decode cX12_go 206 = .ok (.istore_n 3, 1) := dk_62 (dk_at dksX12_go_8 22 rfl rfl)
theorem dX12_go_207 : decode cX12_go 207 = .ok (.aload_n 0, 1) := dk_42 (dk_at dksX12_go_8 23 rfl rfl)
theorem dX12_go_208 : decode cX12_go 208 = .ok (.iconst 0, 1) := dk_3 (dk_at dksX12_go_9 0 rfl rfl)
theorem dX12_go_209 : decode cX12_go 209 = .ok (.putfield 51, 3) := dk_181 0 51 (dk_at dksX12_go_9 1 rfl rfl)
theorem dX12_go_212 : decode cX12_go 212 = .ok (.new 54, 3) := dk_187 0 54 (dk_at dksX12_go_9 4 rfl rfl)
theorem dX12_go_215 : decode cX12_go 215 = .ok (.dup, 1) := dk_89 (dk_at dksX12_go_9 7 rfl rfl)
theorem dX12_go_216 : decode cX12_go 216 = .ok (.invokespecial 56, 3) := dk_183 0 56 (dk_at dksX12_go_9 8 rfl rfl)
theorem dX12_go_219 : decode cX12_go 219 = .ok (.astore 4, 2) := dk_58 4 (dk_at dksX12_go_9 11 rfl rfl)
theorem dX12_go_221 : decode cX12_go 221 = .ok (.aload_n 0, 1) := dk_42 (dk_at dksX12_go_9 13 rfl rfl)
theorem dX12_go_222 : decode cX12_go 222 = .ok (.aload_n 0, 1) := dk_42 (dk_at dksX12_go_9 14 rfl rfl)
theorem dX12_go_223 : decode cX12_go 223 = .ok (.getfield 28, 3) := dk_180 0 28 (dk_at dksX12_go_9 15 rfl rfl)
theorem dX12_go_226 : decode cX12_go 226 = .ok (.invokevirtual 31, 3) := dk_182 0 31 (dk_at dksX12_go_9 18 rfl rfl)
theorem dX12_go_229 : decode cX12_go 229 = .ok (.invokestatic 41, 3) := dk_184 0 41 (dk_at dksX12_go_9 21 rfl rfl)
theorem dX12_go_232 : decode cX12_go 232 = .ok (.ifCond .ne 17, 3) := dk_154 0 17 (dk_at dksX12_go_10 0 rfl rfl)
theorem dX12_go_235 : decode cX12_go 235 = .ok (.aload_n 0, 1) := dk_42 (dk_at dksX12_go_10 3 rfl rfl)
theorem dX12_go_236 : decode cX12_go 236 = .ok (.aload_n 0, 1) := dk_42 (dk_at dksX12_go_10 4 rfl rfl)
theorem dX12_go_237 : decode cX12_go 237 = .ok (.getfield 28, 3) := dk_180 0 28 (dk_at dksX12_go_10 5 rfl rfl)
theorem dX12_go_240 : decode cX12_go 240 = .ok (.invokevirtual 31, 3) := dk_182 0 31 (dk_at dksX12_go_10 8 rfl rfl)
theorem dX12_go_243 : decode cX12_go 243 = .ok (.invokestatic 45, 3) := dk_184 0 45 (dk_at dksX12_go_10 11 rfl rfl)
theorem dX12_go_246 : decode cX12_go 246 = .ok (.ifCond .eq 106, 3) := dk_153 0 106 (dk_at dksX12_go_10 14 rfl rfl)
theorem dX12_go_249 : decode cX12_go 249 = .ok (.iload_n 3, 1) := dk_29 (dk_at dksX12_go_10 17 rfl rfl)
theorem dX12_go_250 : decode cX12_go 250 = .ok (.ifCond .eq 22, 3) := dk_153 0 22 (dk_at dksX12_go_10 18 rfl rfl)
theorem dX12_go_253 : decode cX12_go 253 = .ok (.aload_n 0, 1) := dk_42 (dk_at dksX12_go_10 21 rfl rfl)
theorem dX12_go_254 : decode cX12_go 254 = .ok (.aload_n 0, 1) := dk_42 (dk_at dksX12_go_10 22 rfl rfl)
theorem dX12_go_255 : decode cX12_go 255 = .ok (.getfield 28, 3) := dk_180 0 28 (dk_at dksX12_go_11 0 rfl rfl)
theorem dX12_go_258 : decode cX12_go 258 = .ok (.invokevirtual 31, 3) := dk_182 0 31 (dk_at dksX12_go_11 3 rfl rfl)
theorem dX12_go_261 : decode cX12_go 261 = .ok (.invokestatic 41, 3) := dk_184 0 41 (dk_at dksX12_go_11 6 rfl rfl)
theorem dX12_go_264 : decode cX12_go 264 = .ok (.iload_n 2, 1) := dk_28 (dk_at dksX12_go_11 9 rfl rfl)
theorem dX12_go_265 : decode cX12_go 265 = .ok (.if_icmp .ne 7, 3) := dk_160 0 7 (dk_at dksX12_go_11 10 rfl rfl)
theorem dX12_go_268 : decode cX12_go 268 = .ok (.iconst 1, 1) := dk_4 (dk_at dksX12_go_11 13 rfl rfl)
theorem dX12_go_269 : decode cX12_go 269 = .ok (.goto 4, 3) := dk_167 0 4 (dk_at dksX12_go_11 14 rfl rfl)
theorem dX12_go_272 : decode cX12_go 272 = .ok (.iconst 0, 1) := dk_3 (dk_at dksX12_go_11 17 rfl rfl)
theorem dX12_go_273 : decode cX12_go 273 = .ok (.istore_n 3, 1) := dk_62 (dk_at dksX12_go_11 18 rfl rfl)
theorem dX12_go_274 : decode cX12_go 274 = .ok (.aload_n 0, 1) := dk_42 (dk_at dksX12_go_11 19 rfl rfl)
theorem dX12_go_275 : decode cX12_go 275 = .ok (.getfield 28, 3) := dk_180 0 28 (dk_at dksX12_go_11 20 rfl rfl)
theorem dX12_go_278 : decode cX12_go 278 = .ok (.aload_n 0, 1) := dk_42 (dk_at dksX12_go_11 23 rfl rfl)
theorem dX12_go_279 : decode cX12_go 279 = .ok (.getfield 35, 3) := dk_180 0 35 (dk_at dksX12_go_12 0 rfl rfl)
theorem dX12_go_282 : decode cX12_go 282 = .ok (.isub, 1) := dk_100 (dk_at dksX12_go_12 3 rfl rfl)
theorem dX12_go_283 : decode cX12_go 283 = .ok (.bipush 7, 2) := dk_16 7 (dk_at dksX12_go_12 4 rfl rfl)
theorem dX12_go_285 : decode cX12_go 285 = .ok (.if_icmp .ge 18, 3) := dk_162 0 18 (dk_at dksX12_go_12 6 rfl rfl)
theorem dX12_go_288 : decode cX12_go 288 = .ok (.aload 4, 2) := dk_25 4 (dk_at dksX12_go_12 9 rfl rfl)
theorem dX12_go_290 : decode cX12_go 290 = .ok (.aload_n 0, 1) := dk_42 (dk_at dksX12_go_12 11 rfl rfl)
theorem dX12_go_291 : decode cX12_go 291 = .ok (.aload_n 0, 1) := dk_42 (dk_at dksX12_go_12 12 rfl rfl)
theorem dX12_go_292 : decode cX12_go 292 = .ok (.getfield 28, 3) := dk_180 0 28 (dk_at dksX12_go_12 13 rfl rfl)
theorem dX12_go_295 : decode cX12_go 295 = .ok (.invokevirtual 31, 3) := dk_182 0 31 (dk_at dksX12_go_12 16 rfl rfl)
theorem dX12_go_298 : decode cX12_go 298 = .ok (.i2c, 1) := dk_146 (dk_at dksX12_go_12 19 rfl rfl)
theorem dX12_go_299 : decode cX12_go 299 = .ok (.invokevirtual 57, 3) := dk_182 0 57 (dk_at dksX12_go_12 20 rfl rfl)
theorem dX12_go_302 : decode cX12_go 302 = .ok (.pop, 1) := dk_87 (dk_at dksX12_go_12 23 rfl rfl)
theorem dX12_go_303 : decode cX12_go 303 = .ok (.aload_n 0, 1) := dk_42 (dk_at dksX12_go_13 0 rfl rfl)
theorem dX12_go_304 : decode cX12_go 304 = .ok (.getfield 28, 3) := dk_180 0 28 (dk_at dksX12_go_13 1 rfl rfl)
theorem dX12_go_307 : decode cX12_go 307 = .ok (.aload_n 0, 1) := dk_42 (dk_at dksX12_go_13 4 rfl rfl)
theorem dX12_go_308 : decode cX12_go 308 = .ok (.getfield 35, 3) := dk_180 0 35 (dk_at dksX12_go_13 5 rfl rfl)
theorem dX12_go_311 : decode cX12_go 311 = .ok (.isub, 1) := dk_100 (dk_at dksX12_go_13 8 rfl rfl)
theorem dX12_go_312 : decode cX12_go 312 = .ok (.iconst 3, 1) := dk_6 (dk_at dksX12_go_13 9 rfl rfl)
theorem dX12_go_313 : decode cX12_go 313 = .ok (.if_icmp .ge 26, 3) := dk_162 0 26 (dk_at dksX12_go_13 10 rfl rfl)
theorem dX12_go_316 : decode cX12_go 316 = .ok (.aload_n 0, 1) := dk_42 (dk_at dksX12_go_13 13 rfl rfl)
theorem dX12_go_317 : decode cX12_go 317 = .ok (.bipush 10, 2) := dk_16 10 (dk_at dksX12_go_13 14 rfl rfl)
theorem dX12_go_319 : decode cX12_go 319 = .ok (.aload_n 0, 1) := dk_42 (dk_at dksX12_go_13 16 rfl rfl)
theorem dX12_go_320 : decode cX12_go 320 = .ok (.getfield 51, 3) := dk_180 0 51 (dk_at dksX12_go_13 17 rfl rfl)
theorem dX12_go_323 : decode cX12_go 323 = .ok (.imul, 1) := dk_104 (dk_at dksX12_go_13 20 rfl rfl)
theorem dX12_go_324 : decode cX12_go 324 = .ok (.aload_n 0, 1) := dk_42 (dk_at dksX12_go_13 21 rfl rfl)
theorem dX12_go_325 : decode cX12_go 325 = .ok (.aload_n 0, 1) := dk_42 (dk_at dksX12_go_13 22 rfl rfl)
theorem dX12_go_326 : decode cX12_go 326 = .ok (.getfield 28, 3) := dk_180 0 28 (dk_at dksX12_go_14 0 rfl rfl)
theorem dX12_go_329 : decode cX12_go 329 = .ok (.invokevirtual 31, 3) := dk_182 0 31 (dk_at dksX12_go_14 3 rfl rfl)
theorem dX12_go_332 : decode cX12_go 332 = .ok (.iadd, 1) := dk_96 (dk_at dksX12_go_14 6 rfl rfl)
theorem dX12_go_333 : decode cX12_go 333 = .ok (.bipush 48, 2) := dk_16 48 (dk_at dksX12_go_14 7 rfl rfl)
theorem dX12_go_335 : decode cX12_go 335 = .ok (.isub, 1) := dk_100 (dk_at dksX12_go_14 9 rfl rfl)
theorem dX12_go_336 : decode cX12_go 336 = .ok (.putfield 51, 3) := dk_181 0 51 (dk_at dksX12_go_14 10 rfl rfl)
theorem dX12_go_339 : decode cX12_go 339 = .ok (.aload_n 0, 1) := dk_42 (dk_at dksX12_go_14 13 rfl rfl)
theorem dX12_go_340 : decode cX12_go 340 = .ok (.dup, 1) := dk_89 (dk_at dksX12_go_14 14 rfl rfl)
theorem dX12_go_341 : decode cX12_go 341 = .ok (.getfield 28, 3) := dk_180 0 28 (dk_at dksX12_go_14 15 rfl rfl)
theorem dX12_go_344 : decode cX12_go 344 = .ok (.iconst 1, 1) := dk_4 (dk_at dksX12_go_14 18 rfl rfl)
theorem dX12_go_345 : decode cX12_go 345 = .ok (.iadd, 1) := dk_96 (dk_at dksX12_go_14 19 rfl rfl)
theorem dX12_go_346 : decode cX12_go 346 = .ok (.putfield 28, 3) := dk_181 0 28 (dk_at dksX12_go_14 20 rfl rfl)
theorem dX12_go_349 : decode cX12_go 349 = .ok (.goto (-128), 3) := dk_167 255 128 (dk_at dksX12_go_15 0 rfl rfl)
theorem dX12_go_352 : decode cX12_go 352 = .ok (.aload_n 0, 1) := dk_42 (dk_at dksX12_go_15 3 rfl rfl)
theorem dX12_go_353 : decode cX12_go 353 = .ok (.aload 4, 2) := dk_25 4 (dk_at dksX12_go_15 4 rfl rfl)
theorem dX12_go_355 : decode cX12_go 355 = .ok (.invokevirtual 61, 3) := dk_182 0 61 (dk_at dksX12_go_15 6 rfl rfl)
theorem dX12_go_358 : decode cX12_go 358 = .ok (.putfield 11, 3) := dk_181 0 11 (dk_at dksX12_go_15 9 rfl rfl)
theorem dX12_go_361 : decode cX12_go 361 = .ok (.aload_n 0, 1) := dk_42 (dk_at dksX12_go_15 12 rfl rfl)
theorem dX12_go_362 : decode cX12_go 362 = .ok (.iload_n 3, 1) := dk_29 (dk_at dksX12_go_15 13 rfl rfl)
theorem dX12_go_363 : decode cX12_go 363 = .ok (.ifCond .eq 25, 3) := dk_153 0 25 (dk_at dksX12_go_15 14 rfl rfl)
theorem dX12_go_366 : decode cX12_go 366 = .ok (.aload_n 0, 1) := dk_42 (dk_at dksX12_go_15 17 rfl rfl)
theorem dX12_go_367 : decode cX12_go 367 = .ok (.getfield 28, 3) := dk_180 0 28 (dk_at dksX12_go_15 18 rfl rfl)
theorem dX12_go_370 : decode cX12_go 370 = .ok (.aload_n 0, 1) := dk_42 (dk_at dksX12_go_15 21 rfl rfl)
theorem dX12_go_371 : decode cX12_go 371 = .ok (.getfield 35, 3) := dk_180 0 35 (dk_at dksX12_go_16 0 rfl rfl)
theorem dX12_go_374 : decode cX12_go 374 = .ok (.isub, 1) := dk_100 (dk_at dksX12_go_16 3 rfl rfl)
theorem dX12_go_375 : decode cX12_go 375 = .ok (.iload_n 2, 1) := dk_28 (dk_at dksX12_go_16 4 rfl rfl)
theorem dX12_go_376 : decode cX12_go 376 = .ok (.ifCond .eq 8, 3) := dk_153 0 8 (dk_at dksX12_go_16 5 rfl rfl)
theorem dX12_go_379 : decode cX12_go 379 = .ok (.bipush 7, 2) := dk_16 7 (dk_at dksX12_go_16 8 rfl rfl)
theorem dX12_go_381 : decode cX12_go 381 = .ok (.goto 4, 3) := dk_167 0 4 (dk_at dksX12_go_16 10 rfl rfl)
theorem dX12_go_384 : decode cX12_go 384 = .ok (.iconst 3, 1) := dk_6 (dk_at dksX12_go_16 13 rfl rfl)
theorem dX12_go_385 : decode cX12_go 385 = .ok (.if_icmp .le 7, 3) := dk_164 0 7 (dk_at dksX12_go_16 14 rfl rfl)
theorem dX12_go_388 : decode cX12_go 388 = .ok (.iconst 1, 1) := dk_4 (dk_at dksX12_go_16 17 rfl rfl)
theorem dX12_go_389 : decode cX12_go 389 = .ok (.goto 12, 3) := dk_167 0 12 (dk_at dksX12_go_16 18 rfl rfl)
theorem dX12_go_392 : decode cX12_go 392 = .ok (.iload_n 2, 1) := dk_28 (dk_at dksX12_go_16 21 rfl rfl)
theorem dX12_go_393 : decode cX12_go 393 = .ok (.ifCond .eq 7, 3) := dk_153 0 7 (dk_at dksX12_go_17 0 rfl rfl)
theorem dX12_go_396 : decode cX12_go 396 = .ok (.iconst 2, 1) := dk_5 (dk_at dksX12_go_17 3 rfl rfl)
theorem dX12_go_397 : decode cX12_go 397 = .ok (.goto 4, 3) := dk_167 0 4 (dk_at dksX12_go_17 4 rfl rfl)
theorem dX12_go_400 : decode cX12_go 400 = .ok (.iconst 3, 1) := dk_6 (dk_at dksX12_go_17 7 rfl rfl)
theorem dX12_go_401 : decode cX12_go 401 = .ok (.putfield 38, 3) := dk_181 0 38 (dk_at dksX12_go_17 8 rfl rfl)
theorem dX12_go_404 : decode cX12_go 404 = .ok (.return_, 1) := dk_177 (dk_at dksX12_go_17 11 rfl rfl)
abbrev cX12_byteAt : ByteArray := prog_16_method_2_code
def yX12_byteAt : MethodName := ⟨RX12, "byteAt", "(I)I"⟩
def dkwX12_byteAt_0 : List UInt8 := [27, 42, 180, 0, 21, 162, 0, 16, 42, 180, 0, 17, 27, 51, 17, 0, 255, 126, 167, 0, 4, 3, 172]
abbrev dktX12_byteAt_0 : List UInt8 := dkwX12_byteAt_0 ++ []
theorem dksX12_byteAt_0 : cX12_byteAt.data.toList.drop 0 = dktX12_byteAt_0 := by decide +kernel
theorem dX12_byteAt_0 : decode cX12_byteAt 0 = .ok (.iload_n 1, 1) := dk_27 (dk_at dksX12_byteAt_0 0 rfl rfl)
theorem dX12_byteAt_1 : decode cX12_byteAt 1 = .ok (.aload_n 0, 1) := dk_42 (dk_at dksX12_byteAt_0 1 rfl rfl)
theorem dX12_byteAt_2 : decode cX12_byteAt 2 = .ok (.getfield 21, 3) := dk_180 0 21 (dk_at dksX12_byteAt_0 2 rfl rfl)
theorem dX12_byteAt_5 : decode cX12_byteAt 5 = .ok (.if_icmp .ge 16, 3) := dk_162 0 16 (dk_at dksX12_byteAt_0 5 rfl rfl)
theorem dX12_byteAt_8 : decode cX12_byteAt 8 = .ok (.aload_n 0, 1) := dk_42 (dk_at dksX12_byteAt_0 8 rfl rfl)
theorem dX12_byteAt_9 : decode cX12_byteAt 9 = .ok (.getfield 17, 3) := dk_180 0 17 (dk_at dksX12_byteAt_0 9 rfl rfl)
theorem dX12_byteAt_12 : decode cX12_byteAt 12 = .ok (.iload_n 1, 1) := dk_27 (dk_at dksX12_byteAt_0 12 rfl rfl)
theorem dX12_byteAt_13 : decode cX12_byteAt 13 = .ok (.baload, 1) := dk_51 (dk_at dksX12_byteAt_0 13 rfl rfl)
theorem dX12_byteAt_14 : decode cX12_byteAt 14 = .ok (.sipush 255, 3) := dk_17 0 255 (dk_at dksX12_byteAt_0 14 rfl rfl)
theorem dX12_byteAt_17 : decode cX12_byteAt 17 = .ok (.iand, 1) := dk_126 (dk_at dksX12_byteAt_0 17 rfl rfl)
theorem dX12_byteAt_18 : decode cX12_byteAt 18 = .ok (.goto 4, 3) := dk_167 0 4 (dk_at dksX12_byteAt_0 18 rfl rfl)
theorem dX12_byteAt_21 : decode cX12_byteAt 21 = .ok (.iconst 0, 1) := dk_3 (dk_at dksX12_byteAt_0 21 rfl rfl)
theorem dX12_byteAt_22 : decode cX12_byteAt 22 = .ok (.ireturn, 1) := dk_172 (dk_at dksX12_byteAt_0 22 rfl rfl)
abbrev cX12_isLetter : ByteArray := prog_16_method_4_code
def yX12_isLetter : MethodName := ⟨RX12, "isLetter", "(I)Z"⟩
def dkwX12_isLetter_0 : List UInt8 := [26, 16, 97, 161, 0, 13, 26, 16, 122, 163, 0, 7, 4, 167, 0, 4, 3, 172]
abbrev dktX12_isLetter_0 : List UInt8 := dkwX12_isLetter_0 ++ []
theorem dksX12_isLetter_0 : cX12_isLetter.data.toList.drop 0 = dktX12_isLetter_0 := by decide +kernel
theorem dX12_isLetter_0 : decode cX12_isLetter 0 = .ok (.iload_n 0, 1) := dk_26 (dk_at dksX12_isLetter_0 0 rfl rfl)
theorem dX12_isLetter_1 : decode cX12_isLetter 1 = .ok (.bipush 97, 2) := dk_16 97 (dk_at dksX12_isLetter_0 1 rfl rfl)
theorem dX12_isLetter_3 : decode cX12_isLetter 3 = .ok (.if_icmp .lt 13, 3) := dk_161 0 13 (dk_at dksX12_isLetter_0 3 rfl rfl)
theorem dX12_isLetter_6 : decode cX12_isLetter 6 = .ok (.iload_n 0, 1) := dk_26 (dk_at dksX12_isLetter_0 6 rfl rfl)
theorem dX12_isLetter_7 : decode cX12_isLetter 7 = .ok (.bipush 122, 2) := dk_16 122 (dk_at dksX12_isLetter_0 7 rfl rfl)
theorem dX12_isLetter_9 : decode cX12_isLetter 9 = .ok (.if_icmp .gt 7, 3) := dk_163 0 7 (dk_at dksX12_isLetter_0 9 rfl rfl)
theorem dX12_isLetter_12 : decode cX12_isLetter 12 = .ok (.iconst 1, 1) := dk_4 (dk_at dksX12_isLetter_0 12 rfl rfl)
theorem dX12_isLetter_13 : decode cX12_isLetter 13 = .ok (.goto 4, 3) := dk_167 0 4 (dk_at dksX12_isLetter_0 13 rfl rfl)
theorem dX12_isLetter_16 : decode cX12_isLetter 16 = .ok (.iconst 0, 1) := dk_3 (dk_at dksX12_isLetter_0 16 rfl rfl)
theorem dX12_isLetter_17 : decode cX12_isLetter 17 = .ok (.ireturn, 1) := dk_172 (dk_at dksX12_isLetter_0 17 rfl rfl)
abbrev cX12_isDigit : ByteArray := prog_16_method_3_code
def yX12_isDigit : MethodName := ⟨RX12, "isDigit", "(I)Z"⟩
def dkwX12_isDigit_0 : List UInt8 := [26, 16, 48, 161, 0, 13, 26, 16, 57, 163, 0, 7, 4, 167, 0, 4, 3, 172]
abbrev dktX12_isDigit_0 : List UInt8 := dkwX12_isDigit_0 ++ []
theorem dksX12_isDigit_0 : cX12_isDigit.data.toList.drop 0 = dktX12_isDigit_0 := by decide +kernel
theorem dX12_isDigit_0 : decode cX12_isDigit 0 = .ok (.iload_n 0, 1) := dk_26 (dk_at dksX12_isDigit_0 0 rfl rfl)
theorem dX12_isDigit_1 : decode cX12_isDigit 1 = .ok (.bipush 48, 2) := dk_16 48 (dk_at dksX12_isDigit_0 1 rfl rfl)
theorem dX12_isDigit_3 : decode cX12_isDigit 3 = .ok (.if_icmp .lt 13, 3) := dk_161 0 13 (dk_at dksX12_isDigit_0 3 rfl rfl)
theorem dX12_isDigit_6 : decode cX12_isDigit 6 = .ok (.iload_n 0, 1) := dk_26 (dk_at dksX12_isDigit_0 6 rfl rfl)
theorem dX12_isDigit_7 : decode cX12_isDigit 7 = .ok (.bipush 57, 2) := dk_16 57 (dk_at dksX12_isDigit_0 7 rfl rfl)
theorem dX12_isDigit_9 : decode cX12_isDigit 9 = .ok (.if_icmp .gt 7, 3) := dk_163 0 7 (dk_at dksX12_isDigit_0 9 rfl rfl)
theorem dX12_isDigit_12 : decode cX12_isDigit 12 = .ok (.iconst 1, 1) := dk_4 (dk_at dksX12_isDigit_0 12 rfl rfl)
theorem dX12_isDigit_13 : decode cX12_isDigit 13 = .ok (.goto 4, 3) := dk_167 0 4 (dk_at dksX12_isDigit_0 13 rfl rfl)
theorem dX12_isDigit_16 : decode cX12_isDigit 16 = .ok (.iconst 0, 1) := dk_3 (dk_at dksX12_isDigit_0 16 rfl rfl)
theorem dX12_isDigit_17 : decode cX12_isDigit 17 = .ok (.ireturn, 1) := dk_172 (dk_at dksX12_isDigit_0 17 rfl rfl)
abbrev cX12_is : ByteArray := prog_16_method_7_code
def yX12_is : MethodName := ⟨RX12, "is", "(Ljava/lang/String;)Z"⟩
def dkwX12_is_1 : List UInt8 := [172]
abbrev dktX12_is_1 : List UInt8 := dkwX12_is_1 ++ []
def dkwX12_is_0 : List UInt8 := [42, 180, 0, 38, 5, 160, 0, 18, 42, 180, 0, 11, 43, 182, 0, 70, 153, 0, 7, 4, 167, 0, 4, 3]
abbrev dktX12_is_0 : List UInt8 := dkwX12_is_0 ++ dktX12_is_1
theorem dksX12_is_0 : cX12_is.data.toList.drop 0 = dktX12_is_0 := by decide +kernel
theorem dksX12_is_1 : cX12_is.data.toList.drop 24 = dktX12_is_1 := dk_seg dksX12_is_0 24 rfl rfl
theorem dX12_is_0 : decode cX12_is 0 = .ok (.aload_n 0, 1) := dk_42 (dk_at dksX12_is_0 0 rfl rfl)
theorem dX12_is_1 : decode cX12_is 1 = .ok (.getfield 38, 3) := dk_180 0 38 (dk_at dksX12_is_0 1 rfl rfl)
theorem dX12_is_4 : decode cX12_is 4 = .ok (.iconst 2, 1) := dk_5 (dk_at dksX12_is_0 4 rfl rfl)
theorem dX12_is_5 : decode cX12_is 5 = .ok (.if_icmp .ne 18, 3) := dk_160 0 18 (dk_at dksX12_is_0 5 rfl rfl)
theorem dX12_is_8 : decode cX12_is 8 = .ok (.aload_n 0, 1) := dk_42 (dk_at dksX12_is_0 8 rfl rfl)
theorem dX12_is_9 : decode cX12_is 9 = .ok (.getfield 11, 3) := dk_180 0 11 (dk_at dksX12_is_0 9 rfl rfl)
theorem dX12_is_12 : decode cX12_is 12 = .ok (.aload_n 1, 1) := dk_43 (dk_at dksX12_is_0 12 rfl rfl)
theorem dX12_is_13 : decode cX12_is 13 = .ok (.invokevirtual 70, 3) := dk_182 0 70 (dk_at dksX12_is_0 13 rfl rfl)
theorem dX12_is_16 : decode cX12_is 16 = .ok (.ifCond .eq 7, 3) := dk_153 0 7 (dk_at dksX12_is_0 16 rfl rfl)
theorem dX12_is_19 : decode cX12_is 19 = .ok (.iconst 1, 1) := dk_4 (dk_at dksX12_is_0 19 rfl rfl)
theorem dX12_is_20 : decode cX12_is 20 = .ok (.goto 4, 3) := dk_167 0 4 (dk_at dksX12_is_0 20 rfl rfl)
theorem dX12_is_23 : decode cX12_is 23 = .ok (.iconst 0, 1) := dk_3 (dk_at dksX12_is_0 23 rfl rfl)
theorem dX12_is_24 : decode cX12_is 24 = .ok (.ireturn, 1) := dk_172 (dk_at dksX12_is_1 0 rfl rfl)
abbrev cX12_need : ByteArray := prog_16_method_6_code
def yX12_need : MethodName := ⟨RX12, "need", "(ZI)V"⟩
def dkwX12_need_1 : List UInt8 := [4, 167, 0, 4, 28, 42, 180, 0, 35, 183, 0, 67, 191, 177]
abbrev dktX12_need_1 : List UInt8 := dkwX12_need_1 ++ []
def dkwX12_need_0 : List UInt8 := [27, 154, 0, 36, 187, 0, 65, 89, 42, 180, 0, 38, 4, 159, 0, 11, 42, 180, 0, 38, 8, 160, 0, 7]
abbrev dktX12_need_0 : List UInt8 := dkwX12_need_0 ++ dktX12_need_1
theorem dksX12_need_0 : cX12_need.data.toList.drop 0 = dktX12_need_0 := by decide +kernel
theorem dksX12_need_1 : cX12_need.data.toList.drop 24 = dktX12_need_1 := dk_seg dksX12_need_0 24 rfl rfl
theorem dX12_need_0 : decode cX12_need 0 = .ok (.iload_n 1, 1) := dk_27 (dk_at dksX12_need_0 0 rfl rfl)
theorem dX12_need_1 : decode cX12_need 1 = .ok (.ifCond .ne 36, 3) := dk_154 0 36 (dk_at dksX12_need_0 1 rfl rfl)
theorem dX12_need_4 : decode cX12_need 4 = .ok (.new 65, 3) := dk_187 0 65 (dk_at dksX12_need_0 4 rfl rfl)
theorem dX12_need_7 : decode cX12_need 7 = .ok (.dup, 1) := dk_89 (dk_at dksX12_need_0 7 rfl rfl)
theorem dX12_need_8 : decode cX12_need 8 = .ok (.aload_n 0, 1) := dk_42 (dk_at dksX12_need_0 8 rfl rfl)
theorem dX12_need_9 : decode cX12_need 9 = .ok (.getfield 38, 3) := dk_180 0 38 (dk_at dksX12_need_0 9 rfl rfl)
theorem dX12_need_12 : decode cX12_need 12 = .ok (.iconst 1, 1) := dk_4 (dk_at dksX12_need_0 12 rfl rfl)
theorem dX12_need_13 : decode cX12_need 13 = .ok (.if_icmp .eq 11, 3) := dk_159 0 11 (dk_at dksX12_need_0 13 rfl rfl)
theorem dX12_need_16 : decode cX12_need 16 = .ok (.aload_n 0, 1) := dk_42 (dk_at dksX12_need_0 16 rfl rfl)
theorem dX12_need_17 : decode cX12_need 17 = .ok (.getfield 38, 3) := dk_180 0 38 (dk_at dksX12_need_0 17 rfl rfl)
theorem dX12_need_20 : decode cX12_need 20 = .ok (.iconst 5, 1) := dk_8 (dk_at dksX12_need_0 20 rfl rfl)
theorem dX12_need_21 : decode cX12_need 21 = .ok (.if_icmp .ne 7, 3) := dk_160 0 7 (dk_at dksX12_need_0 21 rfl rfl)
theorem dX12_need_24 : decode cX12_need 24 = .ok (.iconst 1, 1) := dk_4 (dk_at dksX12_need_1 0 rfl rfl)
theorem dX12_need_25 : decode cX12_need 25 = .ok (.goto 4, 3) := dk_167 0 4 (dk_at dksX12_need_1 1 rfl rfl)
theorem dX12_need_28 : decode cX12_need 28 = .ok (.iload_n 2, 1) := dk_28 (dk_at dksX12_need_1 4 rfl rfl)
theorem dX12_need_29 : decode cX12_need 29 = .ok (.aload_n 0, 1) := dk_42 (dk_at dksX12_need_1 5 rfl rfl)
theorem dX12_need_30 : decode cX12_need 30 = .ok (.getfield 35, 3) := dk_180 0 35 (dk_at dksX12_need_1 6 rfl rfl)
theorem dX12_need_33 : decode cX12_need 33 = .ok (.invokespecial 67, 3) := dk_183 0 67 (dk_at dksX12_need_1 9 rfl rfl)
theorem dX12_need_36 : decode cX12_need 36 = .ok (.athrow, 1) := dk_191 (dk_at dksX12_need_1 12 rfl rfl)
theorem dX12_need_37 : decode cX12_need 37 = .ok (.return_, 1) := dk_177 (dk_at dksX12_need_1 13 rfl rfl)
abbrev cX12_number : ByteArray := prog_16_method_10_code
def yX12_number : MethodName := ⟨RX12, "number", "(II)I"⟩
def dkwX12_number_0 : List UInt8 := [42, 27, 28, 182, 0, 95, 62, 42, 182, 0, 99, 29, 172]
abbrev dktX12_number_0 : List UInt8 := dkwX12_number_0 ++ []
theorem dksX12_number_0 : cX12_number.data.toList.drop 0 = dktX12_number_0 := by decide +kernel
theorem dX12_number_0 : decode cX12_number 0 = .ok (.aload_n 0, 1) := dk_42 (dk_at dksX12_number_0 0 rfl rfl)
theorem dX12_number_1 : decode cX12_number 1 = .ok (.iload_n 1, 1) := dk_27 (dk_at dksX12_number_0 1 rfl rfl)
theorem dX12_number_2 : decode cX12_number 2 = .ok (.iload_n 2, 1) := dk_28 (dk_at dksX12_number_0 2 rfl rfl)
theorem dX12_number_3 : decode cX12_number 3 = .ok (.invokevirtual 95, 3) := dk_182 0 95 (dk_at dksX12_number_0 3 rfl rfl)
theorem dX12_number_6 : decode cX12_number 6 = .ok (.istore_n 3, 1) := dk_62 (dk_at dksX12_number_0 6 rfl rfl)
theorem dX12_number_7 : decode cX12_number 7 = .ok (.aload_n 0, 1) := dk_42 (dk_at dksX12_number_0 7 rfl rfl)
theorem dX12_number_8 : decode cX12_number 8 = .ok (.invokevirtual 99, 3) := dk_182 0 99 (dk_at dksX12_number_0 8 rfl rfl)
theorem dX12_number_11 : decode cX12_number 11 = .ok (.iload_n 3, 1) := dk_29 (dk_at dksX12_number_0 11 rfl rfl)
theorem dX12_number_12 : decode cX12_number 12 = .ok (.ireturn, 1) := dk_172 (dk_at dksX12_number_0 12 rfl rfl)
abbrev cX12_hold : ByteArray := prog_16_method_9_code
def yX12_hold : MethodName := ⟨RX12, "hold", "(II)I"⟩
def dkwX12_hold_1 : List UInt8 := [28, 184, 0, 91, 5, 182, 0, 87, 42, 180, 0, 51, 172]
abbrev dktX12_hold_1 : List UInt8 := dkwX12_hold_1 ++ []
def dkwX12_hold_0 : List UInt8 := [42, 42, 180, 0, 38, 6, 160, 0, 7, 4, 167, 0, 4, 3, 4, 182, 0, 87, 42, 42, 180, 0, 51, 27]
abbrev dktX12_hold_0 : List UInt8 := dkwX12_hold_0 ++ dktX12_hold_1
theorem dksX12_hold_0 : cX12_hold.data.toList.drop 0 = dktX12_hold_0 := by decide +kernel
theorem dksX12_hold_1 : cX12_hold.data.toList.drop 24 = dktX12_hold_1 := dk_seg dksX12_hold_0 24 rfl rfl
theorem dX12_hold_0 : decode cX12_hold 0 = .ok (.aload_n 0, 1) := dk_42 (dk_at dksX12_hold_0 0 rfl rfl)
theorem dX12_hold_1 : decode cX12_hold 1 = .ok (.aload_n 0, 1) := dk_42 (dk_at dksX12_hold_0 1 rfl rfl)
theorem dX12_hold_2 : decode cX12_hold 2 = .ok (.getfield 38, 3) := dk_180 0 38 (dk_at dksX12_hold_0 2 rfl rfl)
theorem dX12_hold_5 : decode cX12_hold 5 = .ok (.iconst 3, 1) := dk_6 (dk_at dksX12_hold_0 5 rfl rfl)
theorem dX12_hold_6 : decode cX12_hold 6 = .ok (.if_icmp .ne 7, 3) := dk_160 0 7 (dk_at dksX12_hold_0 6 rfl rfl)
theorem dX12_hold_9 : decode cX12_hold 9 = .ok (.iconst 1, 1) := dk_4 (dk_at dksX12_hold_0 9 rfl rfl)
theorem dX12_hold_10 : decode cX12_hold 10 = .ok (.goto 4, 3) := dk_167 0 4 (dk_at dksX12_hold_0 10 rfl rfl)
theorem dX12_hold_13 : decode cX12_hold 13 = .ok (.iconst 0, 1) := dk_3 (dk_at dksX12_hold_0 13 rfl rfl)
theorem dX12_hold_14 : decode cX12_hold 14 = .ok (.iconst 1, 1) := dk_4 (dk_at dksX12_hold_0 14 rfl rfl)
theorem dX12_hold_15 : decode cX12_hold 15 = .ok (.invokevirtual 87, 3) := dk_182 0 87 (dk_at dksX12_hold_0 15 rfl rfl)
theorem dX12_hold_18 : decode cX12_hold 18 = .ok (.aload_n 0, 1) := dk_42 (dk_at dksX12_hold_0 18 rfl rfl)
theorem dX12_hold_19 : decode cX12_hold 19 = .ok (.aload_n 0, 1) := dk_42 (dk_at dksX12_hold_0 19 rfl rfl)
theorem dX12_hold_20 : decode cX12_hold 20 = .ok (.getfield 51, 3) := dk_180 0 51 (dk_at dksX12_hold_0 20 rfl rfl)
theorem dX12_hold_23 : decode cX12_hold 23 = .ok (.iload_n 1, 1) := dk_27 (dk_at dksX12_hold_0 23 rfl rfl)
theorem dX12_hold_24 : decode cX12_hold 24 = .ok (.iload_n 2, 1) := dk_28 (dk_at dksX12_hold_1 0 rfl rfl)
theorem dX12_hold_25 : decode cX12_hold 25 = .ok (.invokestatic 91, 3) := dk_184 0 91 (dk_at dksX12_hold_1 1 rfl rfl)
theorem dX12_hold_28 : decode cX12_hold 28 = .ok (.iconst 2, 1) := dk_5 (dk_at dksX12_hold_1 4 rfl rfl)
theorem dX12_hold_29 : decode cX12_hold 29 = .ok (.invokevirtual 87, 3) := dk_182 0 87 (dk_at dksX12_hold_1 5 rfl rfl)
theorem dX12_hold_32 : decode cX12_hold 32 = .ok (.aload_n 0, 1) := dk_42 (dk_at dksX12_hold_1 8 rfl rfl)
theorem dX12_hold_33 : decode cX12_hold 33 = .ok (.getfield 51, 3) := dk_180 0 51 (dk_at dksX12_hold_1 9 rfl rfl)
theorem dX12_hold_36 : decode cX12_hold 36 = .ok (.ireturn, 1) := dk_172 (dk_at dksX12_hold_1 12 rfl rfl)
abbrev cX12_isName : ByteArray := prog_16_method_8_code
def yX12_isName : MethodName := ⟨RX12, "isName", "()Z"⟩
def dkwX12_isName_2 : List UInt8 := [3, 172]
abbrev dktX12_isName_2 : List UInt8 := dkwX12_isName_2 ++ []
def dkwX12_isName_1 : List UInt8 := [180, 0, 11, 182, 0, 80, 18, 78, 182, 0, 80, 182, 0, 61, 182, 0, 83, 156, 0, 7, 4, 167, 0, 4]
abbrev dktX12_isName_1 : List UInt8 := dkwX12_isName_1 ++ dktX12_isName_2
def dkwX12_isName_0 : List UInt8 := [42, 180, 0, 38, 5, 160, 0, 42, 18, 76, 187, 0, 54, 89, 183, 0, 56, 18, 78, 182, 0, 80, 42]
abbrev dktX12_isName_0 : List UInt8 := dkwX12_isName_0 ++ dktX12_isName_1
theorem dksX12_isName_0 : cX12_isName.data.toList.drop 0 = dktX12_isName_0 := by decide +kernel
theorem dksX12_isName_1 : cX12_isName.data.toList.drop 23 = dktX12_isName_1 := dk_seg dksX12_isName_0 23 rfl rfl
theorem dksX12_isName_2 : cX12_isName.data.toList.drop 47 = dktX12_isName_2 := dk_seg dksX12_isName_1 24 rfl rfl
theorem dX12_isName_0 : decode cX12_isName 0 = .ok (.aload_n 0, 1) := dk_42 (dk_at dksX12_isName_0 0 rfl rfl)
theorem dX12_isName_1 : decode cX12_isName 1 = .ok (.getfield 38, 3) := dk_180 0 38 (dk_at dksX12_isName_0 1 rfl rfl)
theorem dX12_isName_4 : decode cX12_isName 4 = .ok (.iconst 2, 1) := dk_5 (dk_at dksX12_isName_0 4 rfl rfl)
theorem dX12_isName_5 : decode cX12_isName 5 = .ok (.if_icmp .ne 42, 3) := dk_160 0 42 (dk_at dksX12_isName_0 5 rfl rfl)
theorem dX12_isName_8 : decode cX12_isName 8 = .ok (.ldc 76, 2) := dk_18 76 (dk_at dksX12_isName_0 8 rfl rfl)
theorem dX12_isName_10 : decode cX12_isName 10 = .ok (.new 54, 3) := dk_187 0 54 (dk_at dksX12_isName_0 10 rfl rfl)
theorem dX12_isName_13 : decode cX12_isName 13 = .ok (.dup, 1) := dk_89 (dk_at dksX12_isName_0 13 rfl rfl)
theorem dX12_isName_14 : decode cX12_isName 14 = .ok (.invokespecial 56, 3) := dk_183 0 56 (dk_at dksX12_isName_0 14 rfl rfl)
theorem dX12_isName_17 : decode cX12_isName 17 = .ok (.ldc 78, 2) := dk_18 78 (dk_at dksX12_isName_0 17 rfl rfl)
theorem dX12_isName_19 : decode cX12_isName 19 = .ok (.invokevirtual 80, 3) := dk_182 0 80 (dk_at dksX12_isName_0 19 rfl rfl)
theorem dX12_isName_22 : decode cX12_isName 22 = .ok (.aload_n 0, 1) := dk_42 (dk_at dksX12_isName_0 22 rfl rfl)
theorem dX12_isName_23 : decode cX12_isName 23 = .ok (.getfield 11, 3) := dk_180 0 11 (dk_at dksX12_isName_1 0 rfl rfl)
theorem dX12_isName_26 : decode cX12_isName 26 = .ok (.invokevirtual 80, 3) := dk_182 0 80 (dk_at dksX12_isName_1 3 rfl rfl)
theorem dX12_isName_29 : decode cX12_isName 29 = .ok (.ldc 78, 2) := dk_18 78 (dk_at dksX12_isName_1 6 rfl rfl)
theorem dX12_isName_31 : decode cX12_isName 31 = .ok (.invokevirtual 80, 3) := dk_182 0 80 (dk_at dksX12_isName_1 8 rfl rfl)
theorem dX12_isName_34 : decode cX12_isName 34 = .ok (.invokevirtual 61, 3) := dk_182 0 61 (dk_at dksX12_isName_1 11 rfl rfl)
theorem dX12_isName_37 : decode cX12_isName 37 = .ok (.invokevirtual 83, 3) := dk_182 0 83 (dk_at dksX12_isName_1 14 rfl rfl)
theorem dX12_isName_40 : decode cX12_isName 40 = .ok (.ifCond .ge 7, 3) := dk_156 0 7 (dk_at dksX12_isName_1 17 rfl rfl)
theorem dX12_isName_43 : decode cX12_isName 43 = .ok (.iconst 1, 1) := dk_4 (dk_at dksX12_isName_1 20 rfl rfl)
theorem dX12_isName_44 : decode cX12_isName 44 = .ok (.goto 4, 3) := dk_167 0 4 (dk_at dksX12_isName_1 21 rfl rfl)
theorem dX12_isName_47 : decode cX12_isName 47 = .ok (.iconst 0, 1) := dk_3 (dk_at dksX12_isName_2 0 rfl rfl)
theorem dX12_isName_48 : decode cX12_isName 48 = .ok (.ireturn, 1) := dk_172 (dk_at dksX12_isName_2 1 rfl rfl)
abbrev cX12_person : ByteArray := prog_16_method_12_code
def yX12_person : MethodName := ⟨RX12, "person", "(LSevenTable$Table;)I"⟩
def dkwX12_person_1 : List UInt8 := [159, 0, 7, 4, 167, 0, 4, 3, 6, 182, 0, 87, 42, 182, 0, 99, 28, 172]
abbrev dktX12_person_1 : List UInt8 := dkwX12_person_1 ++ []
def dkwX12_person_0 : List UInt8 := [42, 42, 182, 0, 102, 4, 182, 0, 87, 43, 180, 0, 106, 42, 180, 0, 11, 182, 0, 112, 61, 42, 28, 2]
abbrev dktX12_person_0 : List UInt8 := dkwX12_person_0 ++ dktX12_person_1
theorem dksX12_person_0 : cX12_person.data.toList.drop 0 = dktX12_person_0 := by decide +kernel
theorem dksX12_person_1 : cX12_person.data.toList.drop 24 = dktX12_person_1 := dk_seg dksX12_person_0 24 rfl rfl
theorem dX12_person_0 : decode cX12_person 0 = .ok (.aload_n 0, 1) := dk_42 (dk_at dksX12_person_0 0 rfl rfl)
theorem dX12_person_1 : decode cX12_person 1 = .ok (.aload_n 0, 1) := dk_42 (dk_at dksX12_person_0 1 rfl rfl)
theorem dX12_person_2 : decode cX12_person 2 = .ok (.invokevirtual 102, 3) := dk_182 0 102 (dk_at dksX12_person_0 2 rfl rfl)
theorem dX12_person_5 : decode cX12_person 5 = .ok (.iconst 1, 1) := dk_4 (dk_at dksX12_person_0 5 rfl rfl)
theorem dX12_person_6 : decode cX12_person 6 = .ok (.invokevirtual 87, 3) := dk_182 0 87 (dk_at dksX12_person_0 6 rfl rfl)
theorem dX12_person_9 : decode cX12_person 9 = .ok (.aload_n 1, 1) := dk_43 (dk_at dksX12_person_0 9 rfl rfl)
theorem dX12_person_10 : decode cX12_person 10 = .ok (.getfield 106, 3) := dk_180 0 106 (dk_at dksX12_person_0 10 rfl rfl)
theorem dX12_person_13 : decode cX12_person 13 = .ok (.aload_n 0, 1) := dk_42 (dk_at dksX12_person_0 13 rfl rfl)
theorem dX12_person_14 : decode cX12_person 14 = .ok (.getfield 11, 3) := dk_180 0 11 (dk_at dksX12_person_0 14 rfl rfl)
theorem dX12_person_17 : decode cX12_person 17 = .ok (.invokevirtual 112, 3) := dk_182 0 112 (dk_at dksX12_person_0 17 rfl rfl)
theorem dX12_person_20 : decode cX12_person 20 = .ok (.istore_n 2, 1) := dk_61 (dk_at dksX12_person_0 20 rfl rfl)
theorem dX12_person_21 : decode cX12_person 21 = .ok (.aload_n 0, 1) := dk_42 (dk_at dksX12_person_0 21 rfl rfl)
theorem dX12_person_22 : decode cX12_person 22 = .ok (.iload_n 2, 1) := dk_28 (dk_at dksX12_person_0 22 rfl rfl)
theorem dX12_person_23 : decode cX12_person 23 = .ok (.iconst (-1), 1) := dk_2 (dk_at dksX12_person_0 23 rfl rfl)
theorem dX12_person_24 : decode cX12_person 24 = .ok (.if_icmp .eq 7, 3) := dk_159 0 7 (dk_at dksX12_person_1 0 rfl rfl)
theorem dX12_person_27 : decode cX12_person 27 = .ok (.iconst 1, 1) := dk_4 (dk_at dksX12_person_1 3 rfl rfl)
theorem dX12_person_28 : decode cX12_person 28 = .ok (.goto 4, 3) := dk_167 0 4 (dk_at dksX12_person_1 4 rfl rfl)
theorem dX12_person_31 : decode cX12_person 31 = .ok (.iconst 0, 1) := dk_3 (dk_at dksX12_person_1 7 rfl rfl)
theorem dX12_person_32 : decode cX12_person 32 = .ok (.iconst 3, 1) := dk_6 (dk_at dksX12_person_1 8 rfl rfl)
theorem dX12_person_33 : decode cX12_person 33 = .ok (.invokevirtual 87, 3) := dk_182 0 87 (dk_at dksX12_person_1 9 rfl rfl)
theorem dX12_person_36 : decode cX12_person 36 = .ok (.aload_n 0, 1) := dk_42 (dk_at dksX12_person_1 12 rfl rfl)
theorem dX12_person_37 : decode cX12_person 37 = .ok (.invokevirtual 99, 3) := dk_182 0 99 (dk_at dksX12_person_1 13 rfl rfl)
theorem dX12_person_40 : decode cX12_person 40 = .ok (.iload_n 2, 1) := dk_28 (dk_at dksX12_person_1 16 rfl rfl)
theorem dX12_person_41 : decode cX12_person 41 = .ok (.ireturn, 1) := dk_172 (dk_at dksX12_person_1 17 rfl rfl)
abbrev cX12_end : ByteArray := prog_16_method_11_code
def yX12_end : MethodName := ⟨RX12, "end", "()V"⟩
def dkwX12_end_0 : List UInt8 := [42, 42, 180, 0, 38, 7, 160, 0, 7, 4, 167, 0, 4, 3, 4, 182, 0, 87, 42, 182, 0, 99, 177]
abbrev dktX12_end_0 : List UInt8 := dkwX12_end_0 ++ []
theorem dksX12_end_0 : cX12_end.data.toList.drop 0 = dktX12_end_0 := by decide +kernel
theorem dX12_end_0 : decode cX12_end 0 = .ok (.aload_n 0, 1) := dk_42 (dk_at dksX12_end_0 0 rfl rfl)
theorem dX12_end_1 : decode cX12_end 1 = .ok (.aload_n 0, 1) := dk_42 (dk_at dksX12_end_0 1 rfl rfl)
theorem dX12_end_2 : decode cX12_end 2 = .ok (.getfield 38, 3) := dk_180 0 38 (dk_at dksX12_end_0 2 rfl rfl)
theorem dX12_end_5 : decode cX12_end 5 = .ok (.iconst 4, 1) := dk_7 (dk_at dksX12_end_0 5 rfl rfl)
theorem dX12_end_6 : decode cX12_end 6 = .ok (.if_icmp .ne 7, 3) := dk_160 0 7 (dk_at dksX12_end_0 6 rfl rfl)
theorem dX12_end_9 : decode cX12_end 9 = .ok (.iconst 1, 1) := dk_4 (dk_at dksX12_end_0 9 rfl rfl)
theorem dX12_end_10 : decode cX12_end 10 = .ok (.goto 4, 3) := dk_167 0 4 (dk_at dksX12_end_0 10 rfl rfl)
theorem dX12_end_13 : decode cX12_end 13 = .ok (.iconst 0, 1) := dk_3 (dk_at dksX12_end_0 13 rfl rfl)
theorem dX12_end_14 : decode cX12_end 14 = .ok (.iconst 1, 1) := dk_4 (dk_at dksX12_end_0 14 rfl rfl)
theorem dX12_end_15 : decode cX12_end 15 = .ok (.invokevirtual 87, 3) := dk_182 0 87 (dk_at dksX12_end_0 15 rfl rfl)
theorem dX12_end_18 : decode cX12_end 18 = .ok (.aload_n 0, 1) := dk_42 (dk_at dksX12_end_0 18 rfl rfl)
theorem dX12_end_19 : decode cX12_end 19 = .ok (.invokevirtual 99, 3) := dk_182 0 99 (dk_at dksX12_end_0 19 rfl rfl)
theorem dX12_end_22 : decode cX12_end 22 = .ok (.return_, 1) := dk_177 (dk_at dksX12_end_0 22 rfl rfl)
theorem q135 : (Jvm.Cond.initialized "SevenTable$Reader") ∈ lw_all := lw_g (lw_at lw_m1 18 rfl) rfl
theorem q222 : (Jvm.Cond.fieldLinkNest "SevenTable$Reader" (106 : Nat) "SevenTable$Table" "names" "Ljava/util/ArrayList;" "SevenTable") ∈ lw_tbl := lw_at lw_m1 105 rfl
theorem q610 : (Jvm.Cond.instanceMethod ({ cls := "SevenTable$Reader", name := "<init>", desc := "([BII)V" } : Jvm.MethodName)) ∈ lw_all := lw_g (lw_at lw_m3 13 rfl) rfl
theorem q611 : (Jvm.Cond.code ({ cls := "SevenTable$Reader", name := "<init>", desc := "([BII)V" } : Jvm.MethodName) prog_16_method_1_code (4 : Nat) (Option.none : Option Jvm.ClassFile.FieldType)) ∈ lw_all := lw_g (lw_at lw_m3 14 rfl) rfl
theorem q612 : (Jvm.Cond.methodLink "SevenTable$Reader" (3 : Nat) ({ cls := "java/lang/Object", name := "<init>", desc := "()V" } : Jvm.MethodName)) ∈ lw_all := lw_g (lw_at lw_m3 15 rfl) rfl
theorem q613 : (Jvm.Cond.stringRef "SevenTable$Reader" (9 : Nat) "") ∈ lw_tbl := lw_at lw_m3 16 rfl
theorem q618 : (Jvm.Cond.fieldLink "SevenTable$Reader" (17 : Nat) "SevenTable$Reader" "tape" "[B") ∈ lw_all := lw_g (lw_at lw_m3 21 rfl) rfl
theorem q619 : (Jvm.Cond.fieldLink "SevenTable$Reader" (21 : Nat) "SevenTable$Reader" "size" "I") ∈ lw_all := lw_g (lw_at lw_m3 22 rfl) rfl
theorem q620 : (Jvm.Cond.fieldLink "SevenTable$Reader" (25 : Nat) "SevenTable$Reader" "limit" "I") ∈ lw_all := lw_g (lw_at lw_m3 23 rfl) rfl
theorem q621 : (Jvm.Cond.fieldLink "SevenTable$Reader" (28 : Nat) "SevenTable$Reader" "to" "I") ∈ lw_all := lw_g (lw_at lw_m3 24 rfl) rfl
theorem q628 : (Jvm.Cond.fieldLink "SevenTable$Reader" (38 : Nat) "SevenTable$Reader" "kind" "I") ∈ lw_all := lw_g (lw_at lw_m3 31 rfl) rfl
theorem q629 : (Jvm.Cond.fieldLink "SevenTable$Reader" (35 : Nat) "SevenTable$Reader" "from" "I") ∈ lw_all := lw_g (lw_at lw_m3 32 rfl) rfl
theorem q630 : (Jvm.Cond.fieldLink "SevenTable$Reader" (51 : Nat) "SevenTable$Reader" "number" "I") ∈ lw_all := lw_g (lw_at lw_m3 33 rfl) rfl
theorem q631 : (Jvm.Cond.fieldLink "SevenTable$Reader" (48 : Nat) "SevenTable$Reader" "sign" "I") ∈ lw_all := lw_g (lw_at lw_m3 34 rfl) rfl
theorem q634 : (Jvm.Cond.fieldLink "SevenTable$Reader" (11 : Nat) "SevenTable$Reader" "word" "Ljava/lang/String;") ∈ lw_all := lw_g (lw_at lw_m3 37 rfl) rfl
theorem q644 : (Jvm.Cond.soleField "SevenTable$Reader" "tape") ∈ lw_all := lw_g (lw_at lw_m3 47 rfl) rfl
theorem q646 : (Jvm.Cond.soleField "SevenTable$Reader" "size") ∈ lw_all := lw_g (lw_at lw_m3 49 rfl) rfl
theorem q648 : (Jvm.Cond.soleField "SevenTable$Reader" "limit") ∈ lw_all := lw_g (lw_at lw_m3 51 rfl) rfl
theorem q650 : (Jvm.Cond.soleField "SevenTable$Reader" "to") ∈ lw_all := lw_g (lw_at lw_m3 53 rfl) rfl
theorem q652 : (Jvm.Cond.soleField "SevenTable$Reader" "kind") ∈ lw_all := lw_g (lw_at lw_m3 55 rfl) rfl
theorem q654 : (Jvm.Cond.soleField "SevenTable$Reader" "from") ∈ lw_all := lw_g (lw_at lw_m3 57 rfl) rfl
theorem q656 : (Jvm.Cond.soleField "SevenTable$Reader" "number") ∈ lw_all := lw_g (lw_at lw_m3 59 rfl) rfl
theorem q658 : (Jvm.Cond.soleField "SevenTable$Reader" "sign") ∈ lw_all := lw_g (lw_at lw_m3 61 rfl) rfl
theorem q660 : (Jvm.Cond.soleField "SevenTable$Reader" "word") ∈ lw_all := lw_g (lw_at lw_m3 63 rfl) rfl
theorem q668 : (Jvm.Cond.declares ({ cls := "SevenTable$Reader", name := "go", desc := "()V" } : Jvm.MethodName)) ∈ lw_tbl := lw_at lw_m3 71 rfl
theorem q670 : (Jvm.Cond.instanceMethod ({ cls := "SevenTable$Reader", name := "go", desc := "()V" } : Jvm.MethodName)) ∈ lw_all := lw_g (lw_at lw_m3 73 rfl) rfl
theorem q671 : (Jvm.Cond.code ({ cls := "SevenTable$Reader", name := "go", desc := "()V" } : Jvm.MethodName) prog_16_method_5_code (5 : Nat) (Option.none : Option Jvm.ClassFile.FieldType)) ∈ lw_all := lw_g (lw_at lw_m3 74 rfl) rfl
theorem q672 : (Jvm.Cond.methodLink "SevenTable$Reader" (31 : Nat) ({ cls := "SevenTable$Reader", name := "byteAt", desc := "(I)I" } : Jvm.MethodName)) ∈ lw_all := lw_g (lw_at lw_m3 75 rfl) rfl
theorem q673 : (Jvm.Cond.privateMethod ({ cls := "SevenTable$Reader", name := "byteAt", desc := "(I)I" } : Jvm.MethodName)) ∈ lw_tbl := lw_at lw_m3 76 rfl
theorem q674 : (Jvm.Cond.instanceMethod ({ cls := "SevenTable$Reader", name := "byteAt", desc := "(I)I" } : Jvm.MethodName)) ∈ lw_all := lw_g (lw_at lw_m3 77 rfl) rfl
theorem q675 : (Jvm.Cond.code ({ cls := "SevenTable$Reader", name := "byteAt", desc := "(I)I" } : Jvm.MethodName) prog_16_method_2_code (2 : Nat) (Option.some Jvm.ClassFile.FieldType.int)) ∈ lw_all := lw_g (lw_at lw_m3 78 rfl) rfl
theorem q676 : (Jvm.Cond.methodLink "SevenTable$Reader" (41 : Nat) ({ cls := "SevenTable$Reader", name := "isLetter", desc := "(I)Z" } : Jvm.MethodName)) ∈ lw_all := lw_g (lw_at lw_m3 79 rfl) rfl
theorem q677 : (Jvm.Cond.static ({ cls := "SevenTable$Reader", name := "isLetter", desc := "(I)Z" } : Jvm.MethodName)) ∈ lw_all := lw_g (lw_at lw_m3 80 rfl) rfl
theorem q678 : (Jvm.Cond.code ({ cls := "SevenTable$Reader", name := "isLetter", desc := "(I)Z" } : Jvm.MethodName) prog_16_method_4_code (1 : Nat) (Option.some Jvm.ClassFile.FieldType.boolean)) ∈ lw_all := lw_g (lw_at lw_m3 81 rfl) rfl
theorem q679 : (Jvm.Cond.methodLink "SevenTable$Reader" (45 : Nat) ({ cls := "SevenTable$Reader", name := "isDigit", desc := "(I)Z" } : Jvm.MethodName)) ∈ lw_all := lw_g (lw_at lw_m3 82 rfl) rfl
theorem q680 : (Jvm.Cond.static ({ cls := "SevenTable$Reader", name := "isDigit", desc := "(I)Z" } : Jvm.MethodName)) ∈ lw_all := lw_g (lw_at lw_m3 83 rfl) rfl
theorem q681 : (Jvm.Cond.code ({ cls := "SevenTable$Reader", name := "isDigit", desc := "(I)Z" } : Jvm.MethodName) prog_16_method_3_code (1 : Nat) (Option.some Jvm.ClassFile.FieldType.boolean)) ∈ lw_all := lw_g (lw_at lw_m3 84 rfl) rfl
theorem q682 : (Jvm.Cond.classLink "SevenTable$Reader" (54 : Nat) "java/lang/StringBuilder") ∈ lw_all := lw_g (lw_at lw_m3 85 rfl) rfl
theorem q684 : (Jvm.Cond.methodLink "SevenTable$Reader" (56 : Nat) ({ cls := "java/lang/StringBuilder", name := "<init>", desc := "()V" } : Jvm.MethodName)) ∈ lw_all := lw_g (lw_at lw_m3 87 rfl) rfl
theorem q713 : (Jvm.Cond.methodLink "SevenTable$Reader" (57 : Nat) ({ cls := "java/lang/StringBuilder", name := "append", desc := "(C)Ljava/lang/StringBuilder;" } : Jvm.MethodName)) ∈ lw_all := lw_g (lw_at lw_m3 116 rfl) rfl
theorem q802 : (Jvm.Cond.methodLink "SevenTable$Reader" (61 : Nat) ({ cls := "java/lang/StringBuilder", name := "toString", desc := "()Ljava/lang/String;" } : Jvm.MethodName)) ∈ lw_all := lw_g (lw_at lw_m3 205 rfl) rfl
theorem q870 : (Jvm.Cond.declares ({ cls := "SevenTable$Reader", name := "is", desc := "(Ljava/lang/String;)Z" } : Jvm.MethodName)) ∈ lw_tbl := lw_at lw_m4 33 rfl
theorem q872 : (Jvm.Cond.instanceMethod ({ cls := "SevenTable$Reader", name := "is", desc := "(Ljava/lang/String;)Z" } : Jvm.MethodName)) ∈ lw_all := lw_g (lw_at lw_m4 35 rfl) rfl
theorem q873 : (Jvm.Cond.code ({ cls := "SevenTable$Reader", name := "is", desc := "(Ljava/lang/String;)Z" } : Jvm.MethodName) prog_16_method_7_code (2 : Nat) (Option.some Jvm.ClassFile.FieldType.boolean)) ∈ lw_all := lw_g (lw_at lw_m4 36 rfl) rfl
theorem q874 : (Jvm.Cond.methodLink "SevenTable$Reader" (70 : Nat) ({ cls := "java/lang/String", name := "equals", desc := "(Ljava/lang/Object;)Z" } : Jvm.MethodName)) ∈ lw_all := lw_g (lw_at lw_m4 37 rfl) rfl
theorem q893 : (Jvm.Cond.declares ({ cls := "SevenTable$Reader", name := "need", desc := "(ZI)V" } : Jvm.MethodName)) ∈ lw_tbl := lw_at lw_m4 56 rfl
theorem q895 : (Jvm.Cond.instanceMethod ({ cls := "SevenTable$Reader", name := "need", desc := "(ZI)V" } : Jvm.MethodName)) ∈ lw_all := lw_g (lw_at lw_m4 58 rfl) rfl
theorem q896 : (Jvm.Cond.code ({ cls := "SevenTable$Reader", name := "need", desc := "(ZI)V" } : Jvm.MethodName) prog_16_method_6_code (3 : Nat) (Option.none : Option Jvm.ClassFile.FieldType)) ∈ lw_all := lw_g (lw_at lw_m4 59 rfl) rfl
theorem q897 : (Jvm.Cond.classLink "SevenTable$Reader" (65 : Nat) "SevenTable$Fault") ∈ lw_all := lw_g (lw_at lw_m4 60 rfl) rfl
theorem q935 : (Jvm.Cond.methodLink "SevenTable$Reader" (67 : Nat) ({ cls := "SevenTable$Fault", name := "<init>", desc := "(II)V" } : Jvm.MethodName)) ∈ lw_all := lw_g (lw_at lw_m4 98 rfl) rfl
theorem q964 : (Jvm.Cond.declares ({ cls := "SevenTable$Reader", name := "number", desc := "(II)I" } : Jvm.MethodName)) ∈ lw_tbl := lw_at lw_m4 127 rfl
theorem q966 : (Jvm.Cond.instanceMethod ({ cls := "SevenTable$Reader", name := "number", desc := "(II)I" } : Jvm.MethodName)) ∈ lw_all := lw_g (lw_at lw_m4 129 rfl) rfl
theorem q967 : (Jvm.Cond.code ({ cls := "SevenTable$Reader", name := "number", desc := "(II)I" } : Jvm.MethodName) prog_16_method_10_code (4 : Nat) (Option.some Jvm.ClassFile.FieldType.int)) ∈ lw_all := lw_g (lw_at lw_m4 130 rfl) rfl
theorem q968 : (Jvm.Cond.methodLink "SevenTable$Reader" (95 : Nat) ({ cls := "SevenTable$Reader", name := "hold", desc := "(II)I" } : Jvm.MethodName)) ∈ lw_all := lw_g (lw_at lw_m4 131 rfl) rfl
theorem q969 : (Jvm.Cond.instanceMethod ({ cls := "SevenTable$Reader", name := "hold", desc := "(II)I" } : Jvm.MethodName)) ∈ lw_all := lw_g (lw_at lw_m4 132 rfl) rfl
theorem q970 : (Jvm.Cond.sameMethod "SevenTable$Reader" "SevenTable$Reader" "hold" "(II)I") ∈ lw_all := lw_g (lw_at lw_m4 133 rfl) rfl
theorem q974 : (Jvm.Cond.code ({ cls := "SevenTable$Reader", name := "hold", desc := "(II)I" } : Jvm.MethodName) prog_16_method_9_code (3 : Nat) (Option.some Jvm.ClassFile.FieldType.int)) ∈ lw_all := lw_g (lw_at lw_m4 137 rfl) rfl
theorem q975 : (Jvm.Cond.methodLink "SevenTable$Reader" (87 : Nat) ({ cls := "SevenTable$Reader", name := "need", desc := "(ZI)V" } : Jvm.MethodName)) ∈ lw_all := lw_g (lw_at lw_m4 138 rfl) rfl
theorem q976 : (Jvm.Cond.methodLinkNest "SevenTable$Reader" (91 : Nat) ({ cls := "SevenTable", name := "isIn", desc := "(III)Z" } : Jvm.MethodName) "SevenTable") ∈ lw_tbl := lw_at lw_m4 139 rfl
theorem q979 : (Jvm.Cond.methodLink "SevenTable$Reader" (99 : Nat) ({ cls := "SevenTable$Reader", name := "go", desc := "()V" } : Jvm.MethodName)) ∈ lw_all := lw_g (lw_at lw_m4 142 rfl) rfl
theorem q988 : (Jvm.Cond.declares ({ cls := "SevenTable$Reader", name := "isName", desc := "()Z" } : Jvm.MethodName)) ∈ lw_tbl := lw_at lw_m4 151 rfl
theorem q990 : (Jvm.Cond.instanceMethod ({ cls := "SevenTable$Reader", name := "isName", desc := "()Z" } : Jvm.MethodName)) ∈ lw_all := lw_g (lw_at lw_m4 153 rfl) rfl
theorem q991 : (Jvm.Cond.code ({ cls := "SevenTable$Reader", name := "isName", desc := "()Z" } : Jvm.MethodName) prog_16_method_8_code (1 : Nat) (Option.some Jvm.ClassFile.FieldType.boolean)) ∈ lw_all := lw_g (lw_at lw_m4 154 rfl) rfl
theorem q992 : (Jvm.Cond.stringRef "SevenTable$Reader" (76 : Nat) " kinds person hand heap again refill asks gives no or and not book known held hands heaped most place ") ∈ lw_tbl := lw_at lw_m4 155 rfl
theorem q993 : (Jvm.Cond.stringRef "SevenTable$Reader" (78 : Nat) " ") ∈ lw_tbl := lw_at lw_m4 156 rfl
theorem q994 : (Jvm.Cond.methodLink "SevenTable$Reader" (80 : Nat) ({ cls := "java/lang/StringBuilder", name := "append", desc := "(Ljava/lang/String;)Ljava/lang/StringBuilder;" } : Jvm.MethodName)) ∈ lw_all := lw_g (lw_at lw_m4 157 rfl) rfl
theorem q1040 : (Jvm.Cond.methodLink "SevenTable$Reader" (83 : Nat) ({ cls := "java/lang/String", name := "indexOf", desc := "(Ljava/lang/String;)I" } : Jvm.MethodName)) ∈ lw_all := lw_g (lw_at lw_m4 203 rfl) rfl
theorem q1162 : (Jvm.Cond.declares ({ cls := "SevenTable$Reader", name := "person", desc := "(LSevenTable$Table;)I" } : Jvm.MethodName)) ∈ lw_tbl := lw_at lw_m5 85 rfl
theorem q1164 : (Jvm.Cond.instanceMethod ({ cls := "SevenTable$Reader", name := "person", desc := "(LSevenTable$Table;)I" } : Jvm.MethodName)) ∈ lw_all := lw_g (lw_at lw_m5 87 rfl) rfl
theorem q1165 : (Jvm.Cond.code ({ cls := "SevenTable$Reader", name := "person", desc := "(LSevenTable$Table;)I" } : Jvm.MethodName) prog_16_method_12_code (3 : Nat) (Option.some Jvm.ClassFile.FieldType.int)) ∈ lw_all := lw_g (lw_at lw_m5 88 rfl) rfl
theorem q1166 : (Jvm.Cond.methodLink "SevenTable$Reader" (102 : Nat) ({ cls := "SevenTable$Reader", name := "isName", desc := "()Z" } : Jvm.MethodName)) ∈ lw_all := lw_g (lw_at lw_m5 89 rfl) rfl
theorem q1167 : (Jvm.Cond.methodLink "SevenTable$Reader" (112 : Nat) ({ cls := "java/util/ArrayList", name := "indexOf", desc := "(Ljava/lang/Object;)I" } : Jvm.MethodName)) ∈ lw_all := lw_g (lw_at lw_m5 90 rfl) rfl
theorem q1170 : (Jvm.Cond.declares ({ cls := "SevenTable$Reader", name := "hold", desc := "(II)I" } : Jvm.MethodName)) ∈ lw_tbl := lw_at lw_m5 93 rfl
theorem q1189 : (Jvm.Cond.declares ({ cls := "SevenTable$Reader", name := "end", desc := "()V" } : Jvm.MethodName)) ∈ lw_tbl := lw_at lw_m5 112 rfl
theorem q1191 : (Jvm.Cond.instanceMethod ({ cls := "SevenTable$Reader", name := "end", desc := "()V" } : Jvm.MethodName)) ∈ lw_all := lw_g (lw_at lw_m5 114 rfl) rfl
theorem q1192 : (Jvm.Cond.code ({ cls := "SevenTable$Reader", name := "end", desc := "()V" } : Jvm.MethodName) prog_16_method_11_code (1 : Nat) (Option.none : Option Jvm.ClassFile.FieldType)) ∈ lw_all := lw_g (lw_at lw_m5 115 rfl) rfl
theorem q2470 : (Jvm.Cond.sameMethod "SevenTable$Reader" "SevenTable$Reader" "byteAt" "(I)I") ∈ lw_all := lw_g (lw_at lw_m10 193 rfl) rfl
theorem q2476 : (Jvm.Cond.sameMethod "SevenTable$Reader" "SevenTable$Reader" "need" "(ZI)V") ∈ lw_all := lw_g (lw_at lw_m10 199 rfl) rfl
theorem q2480 : (Jvm.Cond.sameMethod "SevenTable$Reader" "SevenTable$Reader" "go" "()V") ∈ lw_all := lw_g (lw_at lw_m10 203 rfl) rfl
theorem q2488 : (Jvm.Cond.sameMethod "SevenTable$Reader" "SevenTable$Reader" "isName" "()Z") ∈ lw_all := lw_g (lw_at lw_m10 211 rfl) rfl
/-! SevenTable$TableReader -/
set_option maxRecDepth 100000
def RX13 : String := "SevenTable$TableReader"
def TX13 : u_T := fun k => match k with
  | 0 => ("SevenTable$Reader", "tape", "[B", true)
  | 1 => ("SevenTable$Reader", "size", "I", true)
  | 2 => ("SevenTable$Reader", "limit", "I", true)
  | 3 => ("SevenTable$Reader", "to", "I", false)
  | 4 => ("SevenTable$Reader", "kind", "I", false)
  | 5 => ("SevenTable$Reader", "from", "I", false)
  | 6 => ("SevenTable$Reader", "number", "I", false)
  | 7 => ("SevenTable$Reader", "sign", "I", false)
  | 8 => ("SevenTable$Reader", "word", "Ljava/lang/String;", false)
  | 9 => ("SevenTable$TableReader", "t", "LSevenTable$Table;", true)
  | _ => ("SevenTable$TableReader", "onces", "I", false)
def tyX13 : Nat → FieldType := fun k => match k with
  | 0 => .array .byte
  | 1 => .int
  | 2 => .int
  | 3 => .int
  | 4 => .int
  | 5 => .int
  | 6 => .int
  | 7 => .int
  | 8 => .object "java/lang/String"
  | 9 => .object "SevenTable$Table"
  | _ => .int
abbrev wsX130 : List Cond := u_ws RX13 TX13 11
theorem nmX13 : ∀ a, a < 11 → ∀ b, b < 11 → a ≠ b → (TX13 a).2.1 ≠ (TX13 b).2.1 := by decide +kernel
theorem tyX13_ok : ∀ k, k < 11 → parseFieldDescriptor (TX13 k).2.2.1 = some (tyX13 k) := by decide +kernel
abbrev cX13_init : ByteArray := prog_19_method_1_code
def yX13_init : MethodName := ⟨RX13, "<init>", "([BI)V"⟩
def dkwX13_init_0 : List UInt8 := [42, 43, 28, 17, 3, 132, 183, 0, 3, 42, 187, 0, 9, 89, 183, 0, 11, 181, 0, 14, 177]
abbrev dktX13_init_0 : List UInt8 := dkwX13_init_0 ++ []
theorem dksX13_init_0 : cX13_init.data.toList.drop 0 = dktX13_init_0 := by decide +kernel
theorem dX13_init_0 : decode cX13_init 0 = .ok (.aload_n 0, 1) := dk_42 (dk_at dksX13_init_0 0 rfl rfl)
theorem dX13_init_1 : decode cX13_init 1 = .ok (.aload_n 1, 1) := dk_43 (dk_at dksX13_init_0 1 rfl rfl)
theorem dX13_init_2 : decode cX13_init 2 = .ok (.iload_n 2, 1) := dk_28 (dk_at dksX13_init_0 2 rfl rfl)
theorem dX13_init_3 : decode cX13_init 3 = .ok (.sipush 900, 3) := dk_17 3 132 (dk_at dksX13_init_0 3 rfl rfl)
theorem dX13_init_6 : decode cX13_init 6 = .ok (.invokespecial 3, 3) := dk_183 0 3 (dk_at dksX13_init_0 6 rfl rfl)
theorem dX13_init_9 : decode cX13_init 9 = .ok (.aload_n 0, 1) := dk_42 (dk_at dksX13_init_0 9 rfl rfl)
theorem dX13_init_10 : decode cX13_init 10 = .ok (.new 9, 3) := dk_187 0 9 (dk_at dksX13_init_0 10 rfl rfl)
theorem dX13_init_13 : decode cX13_init 13 = .ok (.dup, 1) := dk_89 (dk_at dksX13_init_0 13 rfl rfl)
theorem dX13_init_14 : decode cX13_init 14 = .ok (.invokespecial 11, 3) := dk_183 0 11 (dk_at dksX13_init_0 14 rfl rfl)
theorem dX13_init_17 : decode cX13_init 17 = .ok (.putfield 14, 3) := dk_181 0 14 (dk_at dksX13_init_0 17 rfl rfl)
theorem dX13_init_20 : decode cX13_init 20 = .ok (.return_, 1) := dk_177 (dk_at dksX13_init_0 20 rfl rfl)
abbrev cX13_read : ByteArray := prog_19_method_2_code
def yX13_read : MethodName := ⟨RX13, "read", "()LSevenTable$Table;"⟩
def dkwX13_read_1 : List UInt8 := [180, 0, 33, 4, 96, 181, 0, 33, 167, 255, 228, 42, 180, 0, 14, 176]
abbrev dktX13_read_1 : List UInt8 := dkwX13_read_1 ++ []
def dkwX13_read_0 : List UInt8 := [42, 182, 0, 20, 42, 180, 0, 23, 153, 0, 27, 42, 182, 0, 27, 42, 182, 0, 30, 42, 180, 0, 14, 89]
abbrev dktX13_read_0 : List UInt8 := dkwX13_read_0 ++ dktX13_read_1
theorem dksX13_read_0 : cX13_read.data.toList.drop 0 = dktX13_read_0 := by decide +kernel
theorem dksX13_read_1 : cX13_read.data.toList.drop 24 = dktX13_read_1 := dk_seg dksX13_read_0 24 rfl rfl
theorem dX13_read_0 : decode cX13_read 0 = .ok (.aload_n 0, 1) := dk_42 (dk_at dksX13_read_0 0 rfl rfl)
theorem dX13_read_1 : decode cX13_read 1 = .ok (.invokevirtual 20, 3) := dk_182 0 20 (dk_at dksX13_read_0 1 rfl rfl)
theorem dX13_read_4 : decode cX13_read 4 = .ok (.aload_n 0, 1) := dk_42 (dk_at dksX13_read_0 4 rfl rfl)
theorem dX13_read_5 : decode cX13_read 5 = .ok (.getfield 23, 3) := dk_180 0 23 (dk_at dksX13_read_0 5 rfl rfl)
theorem dX13_read_8 : decode cX13_read 8 = .ok (.ifCond .eq 27, 3) := dk_153 0 27 (dk_at dksX13_read_0 8 rfl rfl)
theorem dX13_read_11 : decode cX13_read 11 = .ok (.aload_n 0, 1) := dk_42 (dk_at dksX13_read_0 11 rfl rfl)
theorem dX13_read_12 : decode cX13_read 12 = .ok (.invokevirtual 27, 3) := dk_182 0 27 (dk_at dksX13_read_0 12 rfl rfl)
theorem dX13_read_15 : decode cX13_read 15 = .ok (.aload_n 0, 1) := dk_42 (dk_at dksX13_read_0 15 rfl rfl)
theorem dX13_read_16 : decode cX13_read 16 = .ok (.invokevirtual 30, 3) := dk_182 0 30 (dk_at dksX13_read_0 16 rfl rfl)
theorem dX13_read_19 : decode cX13_read 19 = .ok (.aload_n 0, 1) := dk_42 (dk_at dksX13_read_0 19 rfl rfl)
theorem dX13_read_20 : decode cX13_read 20 = .ok (.getfield 14, 3) := dk_180 0 14 (dk_at dksX13_read_0 20 rfl rfl)
theorem dX13_read_23 : decode cX13_read 23 = .ok (.dup, 1) := dk_89 (dk_at dksX13_read_0 23 rfl rfl)
theorem dX13_read_24 : decode cX13_read 24 = .ok (.getfield 33, 3) := dk_180 0 33 (dk_at dksX13_read_1 0 rfl rfl)
theorem dX13_read_27 : decode cX13_read 27 = .ok (.iconst 1, 1) := dk_4 (dk_at dksX13_read_1 3 rfl rfl)
theorem dX13_read_28 : decode cX13_read 28 = .ok (.iadd, 1) := dk_96 (dk_at dksX13_read_1 4 rfl rfl)
theorem dX13_read_29 : decode cX13_read 29 = .ok (.putfield 33, 3) := dk_181 0 33 (dk_at dksX13_read_1 5 rfl rfl)
theorem dX13_read_32 : decode cX13_read 32 = .ok (.goto (-28), 3) := dk_167 255 228 (dk_at dksX13_read_1 8 rfl rfl)
theorem dX13_read_35 : decode cX13_read 35 = .ok (.aload_n 0, 1) := dk_42 (dk_at dksX13_read_1 11 rfl rfl)
theorem dX13_read_36 : decode cX13_read 36 = .ok (.getfield 14, 3) := dk_180 0 14 (dk_at dksX13_read_1 12 rfl rfl)
theorem dX13_read_39 : decode cX13_read 39 = .ok (.areturn, 1) := dk_176 (dk_at dksX13_read_1 15 rfl rfl)
abbrev cX13_line : ByteArray := prog_19_method_3_code
def yX13_line : MethodName := ⟨RX13, "line", "()V"⟩
def dkwX13_line_3 : List UInt8 := [182, 0, 38, 153, 0, 10, 42, 182, 0, 58, 167, 0, 7, 42, 182, 0, 60, 177]
abbrev dktX13_line_3 : List UInt8 := dkwX13_line_3 ++ []
def dkwX13_line_2 : List UInt8 := [167, 0, 39, 42, 18, 52, 182, 0, 38, 153, 0, 10, 42, 182, 0, 54, 167, 0, 23, 42, 18, 56]
abbrev dktX13_line_2 : List UInt8 := dkwX13_line_2 ++ dktX13_line_3
def dkwX13_line_1 : List UInt8 := [153, 0, 10, 42, 182, 0, 46, 167, 0, 55, 42, 18, 48, 182, 0, 38, 153, 0, 10, 42, 182, 0, 50]
abbrev dktX13_line_1 : List UInt8 := dkwX13_line_1 ++ dktX13_line_2
def dkwX13_line_0 : List UInt8 := [42, 18, 36, 182, 0, 38, 153, 0, 10, 42, 182, 0, 42, 167, 0, 71, 42, 18, 44, 182, 0, 38]
abbrev dktX13_line_0 : List UInt8 := dkwX13_line_0 ++ dktX13_line_1
theorem dksX13_line_0 : cX13_line.data.toList.drop 0 = dktX13_line_0 := by decide +kernel
theorem dksX13_line_1 : cX13_line.data.toList.drop 22 = dktX13_line_1 := dk_seg dksX13_line_0 22 rfl rfl
theorem dksX13_line_2 : cX13_line.data.toList.drop 45 = dktX13_line_2 := dk_seg dksX13_line_1 23 rfl rfl
theorem dksX13_line_3 : cX13_line.data.toList.drop 67 = dktX13_line_3 := dk_seg dksX13_line_2 22 rfl rfl
theorem dX13_line_0 : decode cX13_line 0 = .ok (.aload_n 0, 1) := dk_42 (dk_at dksX13_line_0 0 rfl rfl)
theorem dX13_line_1 : decode cX13_line 1 = .ok (.ldc 36, 2) := dk_18 36 (dk_at dksX13_line_0 1 rfl rfl)
theorem dX13_line_3 : decode cX13_line 3 = .ok (.invokevirtual 38, 3) := dk_182 0 38 (dk_at dksX13_line_0 3 rfl rfl)
theorem dX13_line_6 : decode cX13_line 6 = .ok (.ifCond .eq 10, 3) := dk_153 0 10 (dk_at dksX13_line_0 6 rfl rfl)
theorem dX13_line_9 : decode cX13_line 9 = .ok (.aload_n 0, 1) := dk_42 (dk_at dksX13_line_0 9 rfl rfl)
theorem dX13_line_10 : decode cX13_line 10 = .ok (.invokevirtual 42, 3) := dk_182 0 42 (dk_at dksX13_line_0 10 rfl rfl)
theorem dX13_line_13 : decode cX13_line 13 = .ok (.goto 71, 3) := dk_167 0 71 (dk_at dksX13_line_0 13 rfl rfl)
theorem dX13_line_16 : decode cX13_line 16 = .ok (.aload_n 0, 1) := dk_42 (dk_at dksX13_line_0 16 rfl rfl)
theorem dX13_line_17 : decode cX13_line 17 = .ok (.ldc 44, 2) := dk_18 44 (dk_at dksX13_line_0 17 rfl rfl)
theorem dX13_line_19 : decode cX13_line 19 = .ok (.invokevirtual 38, 3) := dk_182 0 38 (dk_at dksX13_line_0 19 rfl rfl)
theorem dX13_line_22 : decode cX13_line 22 = .ok (.ifCond .eq 10, 3) := dk_153 0 10 (dk_at dksX13_line_1 0 rfl rfl)
theorem dX13_line_25 : decode cX13_line 25 = .ok (.aload_n 0, 1) := dk_42 (dk_at dksX13_line_1 3 rfl rfl)
theorem dX13_line_26 : decode cX13_line 26 = .ok (.invokevirtual 46, 3) := dk_182 0 46 (dk_at dksX13_line_1 4 rfl rfl)
theorem dX13_line_29 : decode cX13_line 29 = .ok (.goto 55, 3) := dk_167 0 55 (dk_at dksX13_line_1 7 rfl rfl)
theorem dX13_line_32 : decode cX13_line 32 = .ok (.aload_n 0, 1) := dk_42 (dk_at dksX13_line_1 10 rfl rfl)
theorem dX13_line_33 : decode cX13_line 33 = .ok (.ldc 48, 2) := dk_18 48 (dk_at dksX13_line_1 11 rfl rfl)
theorem dX13_line_35 : decode cX13_line 35 = .ok (.invokevirtual 38, 3) := dk_182 0 38 (dk_at dksX13_line_1 13 rfl rfl)
theorem dX13_line_38 : decode cX13_line 38 = .ok (.ifCond .eq 10, 3) := dk_153 0 10 (dk_at dksX13_line_1 16 rfl rfl)
theorem dX13_line_41 : decode cX13_line 41 = .ok (.aload_n 0, 1) := dk_42 (dk_at dksX13_line_1 19 rfl rfl)
theorem dX13_line_42 : decode cX13_line 42 = .ok (.invokevirtual 50, 3) := dk_182 0 50 (dk_at dksX13_line_1 20 rfl rfl)
theorem dX13_line_45 : decode cX13_line 45 = .ok (.goto 39, 3) := dk_167 0 39 (dk_at dksX13_line_2 0 rfl rfl)
theorem dX13_line_48 : decode cX13_line 48 = .ok (.aload_n 0, 1) := dk_42 (dk_at dksX13_line_2 3 rfl rfl)
theorem dX13_line_49 : decode cX13_line 49 = .ok (.ldc 52, 2) := dk_18 52 (dk_at dksX13_line_2 4 rfl rfl)
theorem dX13_line_51 : decode cX13_line 51 = .ok (.invokevirtual 38, 3) := dk_182 0 38 (dk_at dksX13_line_2 6 rfl rfl)
theorem dX13_line_54 : decode cX13_line 54 = .ok (.ifCond .eq 10, 3) := dk_153 0 10 (dk_at dksX13_line_2 9 rfl rfl)
theorem dX13_line_57 : decode cX13_line 57 = .ok (.aload_n 0, 1) := dk_42 (dk_at dksX13_line_2 12 rfl rfl)
theorem dX13_line_58 : decode cX13_line 58 = .ok (.invokevirtual 54, 3) := dk_182 0 54 (dk_at dksX13_line_2 13 rfl rfl)
theorem dX13_line_61 : decode cX13_line 61 = .ok (.goto 23, 3) := dk_167 0 23 (dk_at dksX13_line_2 16 rfl rfl)
theorem dX13_line_64 : decode cX13_line 64 = .ok (.aload_n 0, 1) := dk_42 (dk_at dksX13_line_2 19 rfl rfl)
theorem dX13_line_65 : decode cX13_line 65 = .ok (.ldc 56, 2) := dk_18 56 (dk_at dksX13_line_2 20 rfl rfl)
theorem dX13_line_67 : decode cX13_line 67 = .ok (.invokevirtual 38, 3) := dk_182 0 38 (dk_at dksX13_line_3 0 rfl rfl)
theorem dX13_line_70 : decode cX13_line 70 = .ok (.ifCond .eq 10, 3) := dk_153 0 10 (dk_at dksX13_line_3 3 rfl rfl)
theorem dX13_line_73 : decode cX13_line 73 = .ok (.aload_n 0, 1) := dk_42 (dk_at dksX13_line_3 6 rfl rfl)
theorem dX13_line_74 : decode cX13_line 74 = .ok (.invokevirtual 58, 3) := dk_182 0 58 (dk_at dksX13_line_3 7 rfl rfl)
theorem dX13_line_77 : decode cX13_line 77 = .ok (.goto 7, 3) := dk_167 0 7 (dk_at dksX13_line_3 10 rfl rfl)
theorem dX13_line_80 : decode cX13_line 80 = .ok (.aload_n 0, 1) := dk_42 (dk_at dksX13_line_3 13 rfl rfl)
theorem dX13_line_81 : decode cX13_line 81 = .ok (.invokevirtual 60, 3) := dk_182 0 60 (dk_at dksX13_line_3 14 rfl rfl)
theorem dX13_line_84 : decode cX13_line 84 = .ok (.return_, 1) := dk_177 (dk_at dksX13_line_3 17 rfl rfl)
abbrev cX13_kinds : ByteArray := prog_19_method_5_code
def yX13_kinds : MethodName := ⟨RX13, "kinds", "()V"⟩
def dkwX13_kinds_0 : List UInt8 := [42, 3, 182, 0, 74, 42, 180, 0, 14, 42, 5, 16, 13, 182, 0, 78, 181, 0, 82, 177]
abbrev dktX13_kinds_0 : List UInt8 := dkwX13_kinds_0 ++ []
theorem dksX13_kinds_0 : cX13_kinds.data.toList.drop 0 = dktX13_kinds_0 := by decide +kernel
theorem dX13_kinds_0 : decode cX13_kinds 0 = .ok (.aload_n 0, 1) := dk_42 (dk_at dksX13_kinds_0 0 rfl rfl)
theorem dX13_kinds_1 : decode cX13_kinds 1 = .ok (.iconst 0, 1) := dk_3 (dk_at dksX13_kinds_0 1 rfl rfl)
theorem dX13_kinds_2 : decode cX13_kinds 2 = .ok (.invokevirtual 74, 3) := dk_182 0 74 (dk_at dksX13_kinds_0 2 rfl rfl)
theorem dX13_kinds_5 : decode cX13_kinds 5 = .ok (.aload_n 0, 1) := dk_42 (dk_at dksX13_kinds_0 5 rfl rfl)
theorem dX13_kinds_6 : decode cX13_kinds 6 = .ok (.getfield 14, 3) := dk_180 0 14 (dk_at dksX13_kinds_0 6 rfl rfl)
theorem dX13_kinds_9 : decode cX13_kinds 9 = .ok (.aload_n 0, 1) := dk_42 (dk_at dksX13_kinds_0 9 rfl rfl)
theorem dX13_kinds_10 : decode cX13_kinds 10 = .ok (.iconst 2, 1) := dk_5 (dk_at dksX13_kinds_0 10 rfl rfl)
theorem dX13_kinds_11 : decode cX13_kinds 11 = .ok (.bipush 13, 2) := dk_16 13 (dk_at dksX13_kinds_0 11 rfl rfl)
theorem dX13_kinds_13 : decode cX13_kinds 13 = .ok (.invokevirtual 78, 3) := dk_182 0 78 (dk_at dksX13_kinds_0 13 rfl rfl)
theorem dX13_kinds_16 : decode cX13_kinds 16 = .ok (.putfield 82, 3) := dk_181 0 82 (dk_at dksX13_kinds_0 16 rfl rfl)
theorem dX13_kinds_19 : decode cX13_kinds 19 = .ok (.return_, 1) := dk_177 (dk_at dksX13_kinds_0 19 rfl rfl)
abbrev cX13_once : ByteArray := prog_19_method_4_code
def yX13_once : MethodName := ⟨RX13, "once", "(I)V"⟩
def dkwX13_once_1 : List UInt8 := [180, 0, 63, 4, 27, 120, 128, 181, 0, 63, 42, 182, 0, 20, 177]
abbrev dktX13_once_1 : List UInt8 := dkwX13_once_1 ++ []
def dkwX13_once_0 : List UInt8 := [42, 42, 180, 0, 63, 27, 184, 0, 66, 154, 0, 7, 4, 167, 0, 4, 3, 6, 182, 0, 70, 42, 89]
abbrev dktX13_once_0 : List UInt8 := dkwX13_once_0 ++ dktX13_once_1
theorem dksX13_once_0 : cX13_once.data.toList.drop 0 = dktX13_once_0 := by decide +kernel
theorem dksX13_once_1 : cX13_once.data.toList.drop 23 = dktX13_once_1 := dk_seg dksX13_once_0 23 rfl rfl
theorem dX13_once_0 : decode cX13_once 0 = .ok (.aload_n 0, 1) := dk_42 (dk_at dksX13_once_0 0 rfl rfl)
theorem dX13_once_1 : decode cX13_once 1 = .ok (.aload_n 0, 1) := dk_42 (dk_at dksX13_once_0 1 rfl rfl)
theorem dX13_once_2 : decode cX13_once 2 = .ok (.getfield 63, 3) := dk_180 0 63 (dk_at dksX13_once_0 2 rfl rfl)
theorem dX13_once_5 : decode cX13_once 5 = .ok (.iload_n 1, 1) := dk_27 (dk_at dksX13_once_0 5 rfl rfl)
theorem dX13_once_6 : decode cX13_once 6 = .ok (.invokestatic 66, 3) := dk_184 0 66 (dk_at dksX13_once_0 6 rfl rfl)
theorem dX13_once_9 : decode cX13_once 9 = .ok (.ifCond .ne 7, 3) := dk_154 0 7 (dk_at dksX13_once_0 9 rfl rfl)
theorem dX13_once_12 : decode cX13_once 12 = .ok (.iconst 1, 1) := dk_4 (dk_at dksX13_once_0 12 rfl rfl)
theorem dX13_once_13 : decode cX13_once 13 = .ok (.goto 4, 3) := dk_167 0 4 (dk_at dksX13_once_0 13 rfl rfl)
theorem dX13_once_16 : decode cX13_once 16 = .ok (.iconst 0, 1) := dk_3 (dk_at dksX13_once_0 16 rfl rfl)
theorem dX13_once_17 : decode cX13_once 17 = .ok (.iconst 3, 1) := dk_6 (dk_at dksX13_once_0 17 rfl rfl)
theorem dX13_once_18 : decode cX13_once 18 = .ok (.invokevirtual 70, 3) := dk_182 0 70 (dk_at dksX13_once_0 18 rfl rfl)
theorem dX13_once_21 : decode cX13_once 21 = .ok (.aload_n 0, 1) := dk_42 (dk_at dksX13_once_0 21 rfl rfl)
theorem dX13_once_22 : decode cX13_once 22 = .ok (.dup, 1) := dk_89 (dk_at dksX13_once_0 22 rfl rfl)
theorem dX13_once_23 : decode cX13_once 23 = .ok (.getfield 63, 3) := dk_180 0 63 (dk_at dksX13_once_1 0 rfl rfl)
theorem dX13_once_26 : decode cX13_once 26 = .ok (.iconst 1, 1) := dk_4 (dk_at dksX13_once_1 3 rfl rfl)
theorem dX13_once_27 : decode cX13_once 27 = .ok (.iload_n 1, 1) := dk_27 (dk_at dksX13_once_1 4 rfl rfl)
theorem dX13_once_28 : decode cX13_once 28 = .ok (.ishl, 1) := dk_120 (dk_at dksX13_once_1 5 rfl rfl)
theorem dX13_once_29 : decode cX13_once 29 = .ok (.ior, 1) := dk_128 (dk_at dksX13_once_1 6 rfl rfl)
theorem dX13_once_30 : decode cX13_once 30 = .ok (.putfield 63, 3) := dk_181 0 63 (dk_at dksX13_once_1 7 rfl rfl)
theorem dX13_once_33 : decode cX13_once 33 = .ok (.aload_n 0, 1) := dk_42 (dk_at dksX13_once_1 10 rfl rfl)
theorem dX13_once_34 : decode cX13_once 34 = .ok (.invokevirtual 20, 3) := dk_182 0 20 (dk_at dksX13_once_1 11 rfl rfl)
theorem dX13_once_37 : decode cX13_once 37 = .ok (.return_, 1) := dk_177 (dk_at dksX13_once_1 14 rfl rfl)
abbrev cX13_person : ByteArray := prog_19_method_8_code
def yX13_person : MethodName := ⟨RX13, "person", "()V"⟩
def dkwX13_person_3 : List UInt8 := [180, 0, 102, 182, 0, 112, 87, 42, 182, 0, 20, 177]
abbrev dktX13_person_3 : List UInt8 := dkwX13_person_3 ++ []
def dkwX13_person_2 : List UInt8 := [182, 0, 106, 156, 0, 7, 4, 167, 0, 4, 3, 6, 182, 0, 70, 42, 180, 0, 14, 180, 0, 98, 42]
abbrev dktX13_person_2 : List UInt8 := dkwX13_person_2 ++ dktX13_person_3
def dkwX13_person_1 : List UInt8 := [182, 0, 20, 42, 42, 182, 0, 94, 4, 182, 0, 70, 42, 42, 180, 0, 14, 180, 0, 98, 42, 180, 0, 102]
abbrev dktX13_person_1 : List UInt8 := dkwX13_person_1 ++ dktX13_person_2
def dkwX13_person_0 : List UInt8 := [42, 42, 180, 0, 14, 182, 0, 90, 16, 6, 162, 0, 7, 4, 167, 0, 4, 3, 7, 182, 0, 70, 42]
abbrev dktX13_person_0 : List UInt8 := dkwX13_person_0 ++ dktX13_person_1
theorem dksX13_person_0 : cX13_person.data.toList.drop 0 = dktX13_person_0 := by decide +kernel
theorem dksX13_person_1 : cX13_person.data.toList.drop 23 = dktX13_person_1 := dk_seg dksX13_person_0 23 rfl rfl
theorem dksX13_person_2 : cX13_person.data.toList.drop 47 = dktX13_person_2 := dk_seg dksX13_person_1 24 rfl rfl
theorem dksX13_person_3 : cX13_person.data.toList.drop 70 = dktX13_person_3 := dk_seg dksX13_person_2 23 rfl rfl
theorem dX13_person_0 : decode cX13_person 0 = .ok (.aload_n 0, 1) := dk_42 (dk_at dksX13_person_0 0 rfl rfl)
theorem dX13_person_1 : decode cX13_person 1 = .ok (.aload_n 0, 1) := dk_42 (dk_at dksX13_person_0 1 rfl rfl)
theorem dX13_person_2 : decode cX13_person 2 = .ok (.getfield 14, 3) := dk_180 0 14 (dk_at dksX13_person_0 2 rfl rfl)
theorem dX13_person_5 : decode cX13_person 5 = .ok (.invokevirtual 90, 3) := dk_182 0 90 (dk_at dksX13_person_0 5 rfl rfl)
theorem dX13_person_8 : decode cX13_person 8 = .ok (.bipush 6, 2) := dk_16 6 (dk_at dksX13_person_0 8 rfl rfl)
theorem dX13_person_10 : decode cX13_person 10 = .ok (.if_icmp .ge 7, 3) := dk_162 0 7 (dk_at dksX13_person_0 10 rfl rfl)
theorem dX13_person_13 : decode cX13_person 13 = .ok (.iconst 1, 1) := dk_4 (dk_at dksX13_person_0 13 rfl rfl)
theorem dX13_person_14 : decode cX13_person 14 = .ok (.goto 4, 3) := dk_167 0 4 (dk_at dksX13_person_0 14 rfl rfl)
theorem dX13_person_17 : decode cX13_person 17 = .ok (.iconst 0, 1) := dk_3 (dk_at dksX13_person_0 17 rfl rfl)
theorem dX13_person_18 : decode cX13_person 18 = .ok (.iconst 4, 1) := dk_7 (dk_at dksX13_person_0 18 rfl rfl)
theorem dX13_person_19 : decode cX13_person 19 = .ok (.invokevirtual 70, 3) := dk_182 0 70 (dk_at dksX13_person_0 19 rfl rfl)
theorem dX13_person_22 : decode cX13_person 22 = .ok (.aload_n 0, 1) := dk_42 (dk_at dksX13_person_0 22 rfl rfl)
theorem dX13_person_23 : decode cX13_person 23 = .ok (.invokevirtual 20, 3) := dk_182 0 20 (dk_at dksX13_person_1 0 rfl rfl)
theorem dX13_person_26 : decode cX13_person 26 = .ok (.aload_n 0, 1) := dk_42 (dk_at dksX13_person_1 3 rfl rfl)
theorem dX13_person_27 : decode cX13_person 27 = .ok (.aload_n 0, 1) := dk_42 (dk_at dksX13_person_1 4 rfl rfl)
theorem dX13_person_28 : decode cX13_person 28 = .ok (.invokevirtual 94, 3) := dk_182 0 94 (dk_at dksX13_person_1 5 rfl rfl)
theorem dX13_person_31 : decode cX13_person 31 = .ok (.iconst 1, 1) := dk_4 (dk_at dksX13_person_1 8 rfl rfl)
theorem dX13_person_32 : decode cX13_person 32 = .ok (.invokevirtual 70, 3) := dk_182 0 70 (dk_at dksX13_person_1 9 rfl rfl)
theorem dX13_person_35 : decode cX13_person 35 = .ok (.aload_n 0, 1) := dk_42 (dk_at dksX13_person_1 12 rfl rfl)
theorem dX13_person_36 : decode cX13_person 36 = .ok (.aload_n 0, 1) := dk_42 (dk_at dksX13_person_1 13 rfl rfl)
theorem dX13_person_37 : decode cX13_person 37 = .ok (.getfield 14, 3) := dk_180 0 14 (dk_at dksX13_person_1 14 rfl rfl)
theorem dX13_person_40 : decode cX13_person 40 = .ok (.getfield 98, 3) := dk_180 0 98 (dk_at dksX13_person_1 17 rfl rfl)
theorem dX13_person_43 : decode cX13_person 43 = .ok (.aload_n 0, 1) := dk_42 (dk_at dksX13_person_1 20 rfl rfl)
theorem dX13_person_44 : decode cX13_person 44 = .ok (.getfield 102, 3) := dk_180 0 102 (dk_at dksX13_person_1 21 rfl rfl)
theorem dX13_person_47 : decode cX13_person 47 = .ok (.invokevirtual 106, 3) := dk_182 0 106 (dk_at dksX13_person_2 0 rfl rfl)
theorem dX13_person_50 : decode cX13_person 50 = .ok (.ifCond .ge 7, 3) := dk_156 0 7 (dk_at dksX13_person_2 3 rfl rfl)
theorem dX13_person_53 : decode cX13_person 53 = .ok (.iconst 1, 1) := dk_4 (dk_at dksX13_person_2 6 rfl rfl)
theorem dX13_person_54 : decode cX13_person 54 = .ok (.goto 4, 3) := dk_167 0 4 (dk_at dksX13_person_2 7 rfl rfl)
theorem dX13_person_57 : decode cX13_person 57 = .ok (.iconst 0, 1) := dk_3 (dk_at dksX13_person_2 10 rfl rfl)
theorem dX13_person_58 : decode cX13_person 58 = .ok (.iconst 3, 1) := dk_6 (dk_at dksX13_person_2 11 rfl rfl)
theorem dX13_person_59 : decode cX13_person 59 = .ok (.invokevirtual 70, 3) := dk_182 0 70 (dk_at dksX13_person_2 12 rfl rfl)
theorem dX13_person_62 : decode cX13_person 62 = .ok (.aload_n 0, 1) := dk_42 (dk_at dksX13_person_2 15 rfl rfl)
theorem dX13_person_63 : decode cX13_person 63 = .ok (.getfield 14, 3) := dk_180 0 14 (dk_at dksX13_person_2 16 rfl rfl)
theorem dX13_person_66 : decode cX13_person 66 = .ok (.getfield 98, 3) := dk_180 0 98 (dk_at dksX13_person_2 19 rfl rfl)
theorem dX13_person_69 : decode cX13_person 69 = .ok (.aload_n 0, 1) := dk_42 (dk_at dksX13_person_2 22 rfl rfl)
theorem dX13_person_70 : decode cX13_person 70 = .ok (.getfield 102, 3) := dk_180 0 102 (dk_at dksX13_person_3 0 rfl rfl)
theorem dX13_person_73 : decode cX13_person 73 = .ok (.invokevirtual 112, 3) := dk_182 0 112 (dk_at dksX13_person_3 3 rfl rfl)
theorem dX13_person_76 : decode cX13_person 76 = .ok (.pop, 1) := dk_87 (dk_at dksX13_person_3 6 rfl rfl)
theorem dX13_person_77 : decode cX13_person 77 = .ok (.aload_n 0, 1) := dk_42 (dk_at dksX13_person_3 7 rfl rfl)
theorem dX13_person_78 : decode cX13_person 78 = .ok (.invokevirtual 20, 3) := dk_182 0 20 (dk_at dksX13_person_3 8 rfl rfl)
theorem dX13_person_81 : decode cX13_person 81 = .ok (.return_, 1) := dk_177 (dk_at dksX13_person_3 11 rfl rfl)
abbrev cX13_hand : ByteArray := prog_19_method_9_code
def yX13_hand : MethodName := ⟨RX13, "hand", "()V"⟩
def dkwX13_hand_4 : List UInt8 := [50, 28, 29, 79, 42, 180, 0, 14, 180, 0, 125, 28, 92, 46, 29, 96, 79, 42, 182, 0, 20, 177]
abbrev dktX13_hand_4 : List UInt8 := dkwX13_hand_4 ++ []
def dkwX13_hand_3 : List UInt8 := [46, 29, 96, 7, 163, 0, 7, 4, 167, 0, 4, 3, 8, 182, 0, 70, 42, 180, 0, 14, 180, 0, 122, 27]
abbrev dktX13_hand_3 : List UInt8 := dkwX13_hand_3 ++ dktX13_hand_4
def dkwX13_hand_2 : List UInt8 := [6, 182, 0, 70, 42, 182, 0, 20, 42, 4, 7, 182, 0, 119, 62, 42, 42, 180, 0, 14, 180, 0, 125, 28]
abbrev dktX13_hand_2 : List UInt8 := dkwX13_hand_2 ++ dktX13_hand_3
def dkwX13_hand_1 : List UInt8 := [182, 0, 119, 61, 42, 42, 180, 0, 14, 180, 0, 122, 27, 50, 28, 46, 154, 0, 7, 4, 167, 0, 4, 3]
abbrev dktX13_hand_1 : List UInt8 := dkwX13_hand_1 ++ dktX13_hand_2
def dkwX13_hand_0 : List UInt8 := [42, 182, 0, 20, 42, 42, 180, 0, 14, 182, 0, 116, 60, 42, 3, 42, 180, 0, 14, 180, 0, 82, 4, 100]
abbrev dktX13_hand_0 : List UInt8 := dkwX13_hand_0 ++ dktX13_hand_1
theorem dksX13_hand_0 : cX13_hand.data.toList.drop 0 = dktX13_hand_0 := by decide +kernel
theorem dksX13_hand_1 : cX13_hand.data.toList.drop 24 = dktX13_hand_1 := dk_seg dksX13_hand_0 24 rfl rfl
theorem dksX13_hand_2 : cX13_hand.data.toList.drop 48 = dktX13_hand_2 := dk_seg dksX13_hand_1 24 rfl rfl
theorem dksX13_hand_3 : cX13_hand.data.toList.drop 72 = dktX13_hand_3 := dk_seg dksX13_hand_2 24 rfl rfl
theorem dksX13_hand_4 : cX13_hand.data.toList.drop 96 = dktX13_hand_4 := dk_seg dksX13_hand_3 24 rfl rfl
theorem dX13_hand_0 : decode cX13_hand 0 = .ok (.aload_n 0, 1) := dk_42 (dk_at dksX13_hand_0 0 rfl rfl)
theorem dX13_hand_1 : decode cX13_hand 1 = .ok (.invokevirtual 20, 3) := dk_182 0 20 (dk_at dksX13_hand_0 1 rfl rfl)
theorem dX13_hand_4 : decode cX13_hand 4 = .ok (.aload_n 0, 1) := dk_42 (dk_at dksX13_hand_0 4 rfl rfl)
theorem dX13_hand_5 : decode cX13_hand 5 = .ok (.aload_n 0, 1) := dk_42 (dk_at dksX13_hand_0 5 rfl rfl)
theorem dX13_hand_6 : decode cX13_hand 6 = .ok (.getfield 14, 3) := dk_180 0 14 (dk_at dksX13_hand_0 6 rfl rfl)
theorem dX13_hand_9 : decode cX13_hand 9 = .ok (.invokevirtual 116, 3) := dk_182 0 116 (dk_at dksX13_hand_0 9 rfl rfl)
theorem dX13_hand_12 : decode cX13_hand 12 = .ok (.istore_n 1, 1) := dk_60 (dk_at dksX13_hand_0 12 rfl rfl)
theorem dX13_hand_13 : decode cX13_hand 13 = .ok (.aload_n 0, 1) := dk_42 (dk_at dksX13_hand_0 13 rfl rfl)
theorem dX13_hand_14 : decode cX13_hand 14 = .ok (.iconst 0, 1) := dk_3 (dk_at dksX13_hand_0 14 rfl rfl)
theorem dX13_hand_15 : decode cX13_hand 15 = .ok (.aload_n 0, 1) := dk_42 (dk_at dksX13_hand_0 15 rfl rfl)
theorem dX13_hand_16 : decode cX13_hand 16 = .ok (.getfield 14, 3) := dk_180 0 14 (dk_at dksX13_hand_0 16 rfl rfl)
theorem dX13_hand_19 : decode cX13_hand 19 = .ok (.getfield 82, 3) := dk_180 0 82 (dk_at dksX13_hand_0 19 rfl rfl)
theorem dX13_hand_22 : decode cX13_hand 22 = .ok (.iconst 1, 1) := dk_4 (dk_at dksX13_hand_0 22 rfl rfl)
theorem dX13_hand_23 : decode cX13_hand 23 = .ok (.isub, 1) := dk_100 (dk_at dksX13_hand_0 23 rfl rfl)
theorem dX13_hand_24 : decode cX13_hand 24 = .ok (.invokevirtual 119, 3) := dk_182 0 119 (dk_at dksX13_hand_1 0 rfl rfl)
theorem dX13_hand_27 : decode cX13_hand 27 = .ok (.istore_n 2, 1) := dk_61 (dk_at dksX13_hand_1 3 rfl rfl)
theorem dX13_hand_28 : decode cX13_hand 28 = .ok (.aload_n 0, 1) := dk_42 (dk_at dksX13_hand_1 4 rfl rfl)
theorem dX13_hand_29 : decode cX13_hand 29 = .ok (.aload_n 0, 1) := dk_42 (dk_at dksX13_hand_1 5 rfl rfl)
theorem dX13_hand_30 : decode cX13_hand 30 = .ok (.getfield 14, 3) := dk_180 0 14 (dk_at dksX13_hand_1 6 rfl rfl)
theorem dX13_hand_33 : decode cX13_hand 33 = .ok (.getfield 122, 3) := dk_180 0 122 (dk_at dksX13_hand_1 9 rfl rfl)
theorem dX13_hand_36 : decode cX13_hand 36 = .ok (.iload_n 1, 1) := dk_27 (dk_at dksX13_hand_1 12 rfl rfl)
theorem dX13_hand_37 : decode cX13_hand 37 = .ok (.aaload, 1) := dk_50 (dk_at dksX13_hand_1 13 rfl rfl)
theorem dX13_hand_38 : decode cX13_hand 38 = .ok (.iload_n 2, 1) := dk_28 (dk_at dksX13_hand_1 14 rfl rfl)
theorem dX13_hand_39 : decode cX13_hand 39 = .ok (.iaload, 1) := dk_46 (dk_at dksX13_hand_1 15 rfl rfl)
theorem dX13_hand_40 : decode cX13_hand 40 = .ok (.ifCond .ne 7, 3) := dk_154 0 7 (dk_at dksX13_hand_1 16 rfl rfl)
theorem dX13_hand_43 : decode cX13_hand 43 = .ok (.iconst 1, 1) := dk_4 (dk_at dksX13_hand_1 19 rfl rfl)
theorem dX13_hand_44 : decode cX13_hand 44 = .ok (.goto 4, 3) := dk_167 0 4 (dk_at dksX13_hand_1 20 rfl rfl)
theorem dX13_hand_47 : decode cX13_hand 47 = .ok (.iconst 0, 1) := dk_3 (dk_at dksX13_hand_1 23 rfl rfl)
theorem dX13_hand_48 : decode cX13_hand 48 = .ok (.iconst 3, 1) := dk_6 (dk_at dksX13_hand_2 0 rfl rfl)
theorem dX13_hand_49 : decode cX13_hand 49 = .ok (.invokevirtual 70, 3) := dk_182 0 70 (dk_at dksX13_hand_2 1 rfl rfl)
theorem dX13_hand_52 : decode cX13_hand 52 = .ok (.aload_n 0, 1) := dk_42 (dk_at dksX13_hand_2 4 rfl rfl)
theorem dX13_hand_53 : decode cX13_hand 53 = .ok (.invokevirtual 20, 3) := dk_182 0 20 (dk_at dksX13_hand_2 5 rfl rfl)
theorem dX13_hand_56 : decode cX13_hand 56 = .ok (.aload_n 0, 1) := dk_42 (dk_at dksX13_hand_2 8 rfl rfl)
theorem dX13_hand_57 : decode cX13_hand 57 = .ok (.iconst 1, 1) := dk_4 (dk_at dksX13_hand_2 9 rfl rfl)
theorem dX13_hand_58 : decode cX13_hand 58 = .ok (.iconst 4, 1) := dk_7 (dk_at dksX13_hand_2 10 rfl rfl)
theorem dX13_hand_59 : decode cX13_hand 59 = .ok (.invokevirtual 119, 3) := dk_182 0 119 (dk_at dksX13_hand_2 11 rfl rfl)
theorem dX13_hand_62 : decode cX13_hand 62 = .ok (.istore_n 3, 1) := dk_62 (dk_at dksX13_hand_2 14 rfl rfl)
theorem dX13_hand_63 : decode cX13_hand 63 = .ok (.aload_n 0, 1) := dk_42 (dk_at dksX13_hand_2 15 rfl rfl)
theorem dX13_hand_64 : decode cX13_hand 64 = .ok (.aload_n 0, 1) := dk_42 (dk_at dksX13_hand_2 16 rfl rfl)
theorem dX13_hand_65 : decode cX13_hand 65 = .ok (.getfield 14, 3) := dk_180 0 14 (dk_at dksX13_hand_2 17 rfl rfl)
theorem dX13_hand_68 : decode cX13_hand 68 = .ok (.getfield 125, 3) := dk_180 0 125 (dk_at dksX13_hand_2 20 rfl rfl)
theorem dX13_hand_71 : decode cX13_hand 71 = .ok (.iload_n 2, 1) := dk_28 (dk_at dksX13_hand_2 23 rfl rfl)
theorem dX13_hand_72 : decode cX13_hand 72 = .ok (.iaload, 1) := dk_46 (dk_at dksX13_hand_3 0 rfl rfl)
theorem dX13_hand_73 : decode cX13_hand 73 = .ok (.iload_n 3, 1) := dk_29 (dk_at dksX13_hand_3 1 rfl rfl)
theorem dX13_hand_74 : decode cX13_hand 74 = .ok (.iadd, 1) := dk_96 (dk_at dksX13_hand_3 2 rfl rfl)
theorem dX13_hand_75 : decode cX13_hand 75 = .ok (.iconst 4, 1) := dk_7 (dk_at dksX13_hand_3 3 rfl rfl)
theorem dX13_hand_76 : decode cX13_hand 76 = .ok (.if_icmp .gt 7, 3) := dk_163 0 7 (dk_at dksX13_hand_3 4 rfl rfl)
theorem dX13_hand_79 : decode cX13_hand 79 = .ok (.iconst 1, 1) := dk_4 (dk_at dksX13_hand_3 7 rfl rfl)
theorem dX13_hand_80 : decode cX13_hand 80 = .ok (.goto 4, 3) := dk_167 0 4 (dk_at dksX13_hand_3 8 rfl rfl)
theorem dX13_hand_83 : decode cX13_hand 83 = .ok (.iconst 0, 1) := dk_3 (dk_at dksX13_hand_3 11 rfl rfl)
theorem dX13_hand_84 : decode cX13_hand 84 = .ok (.iconst 5, 1) := dk_8 (dk_at dksX13_hand_3 12 rfl rfl)
theorem dX13_hand_85 : decode cX13_hand 85 = .ok (.invokevirtual 70, 3) := dk_182 0 70 (dk_at dksX13_hand_3 13 rfl rfl)
theorem dX13_hand_88 : decode cX13_hand 88 = .ok (.aload_n 0, 1) := dk_42 (dk_at dksX13_hand_3 16 rfl rfl)
theorem dX13_hand_89 : decode cX13_hand 89 = .ok (.getfield 14, 3) := dk_180 0 14 (dk_at dksX13_hand_3 17 rfl rfl)
theorem dX13_hand_92 : decode cX13_hand 92 = .ok (.getfield 122, 3) := dk_180 0 122 (dk_at dksX13_hand_3 20 rfl rfl)
theorem dX13_hand_95 : decode cX13_hand 95 = .ok (.iload_n 1, 1) := dk_27 (dk_at dksX13_hand_3 23 rfl rfl)
theorem dX13_hand_96 : decode cX13_hand 96 = .ok (.aaload, 1) := dk_50 (dk_at dksX13_hand_4 0 rfl rfl)
theorem dX13_hand_97 : decode cX13_hand 97 = .ok (.iload_n 2, 1) := dk_28 (dk_at dksX13_hand_4 1 rfl rfl)
theorem dX13_hand_98 : decode cX13_hand 98 = .ok (.iload_n 3, 1) := dk_29 (dk_at dksX13_hand_4 2 rfl rfl)
theorem dX13_hand_99 : decode cX13_hand 99 = .ok (.iastore, 1) := dk_79 (dk_at dksX13_hand_4 3 rfl rfl)
theorem dX13_hand_100 : decode cX13_hand 100 = .ok (.aload_n 0, 1) := dk_42 (dk_at dksX13_hand_4 4 rfl rfl)
theorem dX13_hand_101 : decode cX13_hand 101 = .ok (.getfield 14, 3) := dk_180 0 14 (dk_at dksX13_hand_4 5 rfl rfl)
theorem dX13_hand_104 : decode cX13_hand 104 = .ok (.getfield 125, 3) := dk_180 0 125 (dk_at dksX13_hand_4 8 rfl rfl)
theorem dX13_hand_107 : decode cX13_hand 107 = .ok (.iload_n 2, 1) := dk_28 (dk_at dksX13_hand_4 11 rfl rfl)
theorem dX13_hand_108 : decode cX13_hand 108 = .ok (.dup2, 1) := dk_92 (dk_at dksX13_hand_4 12 rfl rfl)
theorem dX13_hand_109 : decode cX13_hand 109 = .ok (.iaload, 1) := dk_46 (dk_at dksX13_hand_4 13 rfl rfl)
theorem dX13_hand_110 : decode cX13_hand 110 = .ok (.iload_n 3, 1) := dk_29 (dk_at dksX13_hand_4 14 rfl rfl)
theorem dX13_hand_111 : decode cX13_hand 111 = .ok (.iadd, 1) := dk_96 (dk_at dksX13_hand_4 15 rfl rfl)
theorem dX13_hand_112 : decode cX13_hand 112 = .ok (.iastore, 1) := dk_79 (dk_at dksX13_hand_4 16 rfl rfl)
theorem dX13_hand_113 : decode cX13_hand 113 = .ok (.aload_n 0, 1) := dk_42 (dk_at dksX13_hand_4 17 rfl rfl)
theorem dX13_hand_114 : decode cX13_hand 114 = .ok (.invokevirtual 20, 3) := dk_182 0 20 (dk_at dksX13_hand_4 18 rfl rfl)
theorem dX13_hand_117 : decode cX13_hand 117 = .ok (.return_, 1) := dk_177 (dk_at dksX13_hand_4 21 rfl rfl)
abbrev cX13_heap : ByteArray := prog_19_method_10_code
def yX13_heap : MethodName := ⟨RX13, "heap", "()V"⟩
def dkwX13_heap_4 : List UInt8 := [159, 255, 167, 177]
abbrev dktX13_heap_4 : List UInt8 := dkwX13_heap_4 ++ []
def dkwX13_heap_3 : List UInt8 := [79, 42, 180, 0, 14, 89, 180, 0, 131, 4, 96, 181, 0, 131, 42, 182, 0, 20, 42, 180, 0, 23, 6]
abbrev dktX13_heap_3 : List UInt8 := dkwX13_heap_3 ++ dktX13_heap_4
def dkwX13_heap_2 : List UInt8 := [180, 0, 125, 27, 92, 46, 4, 96, 79, 42, 180, 0, 14, 180, 0, 129, 42, 180, 0, 14, 180, 0, 131, 27]
abbrev dktX13_heap_2 : List UInt8 := dkwX13_heap_2 ++ dktX13_heap_3
def dkwX13_heap_1 : List UInt8 := [180, 0, 125, 27, 46, 7, 162, 0, 7, 4, 167, 0, 4, 3, 8, 182, 0, 70, 42, 180, 0, 14]
abbrev dktX13_heap_1 : List UInt8 := dkwX13_heap_1 ++ dktX13_heap_2
def dkwX13_heap_0 : List UInt8 := [42, 182, 0, 20, 42, 3, 42, 180, 0, 14, 180, 0, 82, 4, 100, 182, 0, 119, 60, 42, 42, 180, 0, 14]
abbrev dktX13_heap_0 : List UInt8 := dkwX13_heap_0 ++ dktX13_heap_1
theorem dksX13_heap_0 : cX13_heap.data.toList.drop 0 = dktX13_heap_0 := by decide +kernel
theorem dksX13_heap_1 : cX13_heap.data.toList.drop 24 = dktX13_heap_1 := dk_seg dksX13_heap_0 24 rfl rfl
theorem dksX13_heap_2 : cX13_heap.data.toList.drop 46 = dktX13_heap_2 := dk_seg dksX13_heap_1 22 rfl rfl
theorem dksX13_heap_3 : cX13_heap.data.toList.drop 70 = dktX13_heap_3 := dk_seg dksX13_heap_2 24 rfl rfl
theorem dksX13_heap_4 : cX13_heap.data.toList.drop 93 = dktX13_heap_4 := dk_seg dksX13_heap_3 23 rfl rfl
theorem dX13_heap_0 : decode cX13_heap 0 = .ok (.aload_n 0, 1) := dk_42 (dk_at dksX13_heap_0 0 rfl rfl)
theorem dX13_heap_1 : decode cX13_heap 1 = .ok (.invokevirtual 20, 3) := dk_182 0 20 (dk_at dksX13_heap_0 1 rfl rfl)
theorem dX13_heap_4 : decode cX13_heap 4 = .ok (.aload_n 0, 1) := dk_42 (dk_at dksX13_heap_0 4 rfl rfl)
theorem dX13_heap_5 : decode cX13_heap 5 = .ok (.iconst 0, 1) := dk_3 (dk_at dksX13_heap_0 5 rfl rfl)
theorem dX13_heap_6 : decode cX13_heap 6 = .ok (.aload_n 0, 1) := dk_42 (dk_at dksX13_heap_0 6 rfl rfl)
theorem dX13_heap_7 : decode cX13_heap 7 = .ok (.getfield 14, 3) := dk_180 0 14 (dk_at dksX13_heap_0 7 rfl rfl)
theorem dX13_heap_10 : decode cX13_heap 10 = .ok (.getfield 82, 3) := dk_180 0 82 (dk_at dksX13_heap_0 10 rfl rfl)
theorem dX13_heap_13 : decode cX13_heap 13 = .ok (.iconst 1, 1) := dk_4 (dk_at dksX13_heap_0 13 rfl rfl)
theorem dX13_heap_14 : decode cX13_heap 14 = .ok (.isub, 1) := dk_100 (dk_at dksX13_heap_0 14 rfl rfl)
theorem dX13_heap_15 : decode cX13_heap 15 = .ok (.invokevirtual 119, 3) := dk_182 0 119 (dk_at dksX13_heap_0 15 rfl rfl)
theorem dX13_heap_18 : decode cX13_heap 18 = .ok (.istore_n 1, 1) := dk_60 (dk_at dksX13_heap_0 18 rfl rfl)
theorem dX13_heap_19 : decode cX13_heap 19 = .ok (.aload_n 0, 1) := dk_42 (dk_at dksX13_heap_0 19 rfl rfl)
theorem dX13_heap_20 : decode cX13_heap 20 = .ok (.aload_n 0, 1) := dk_42 (dk_at dksX13_heap_0 20 rfl rfl)
theorem dX13_heap_21 : decode cX13_heap 21 = .ok (.getfield 14, 3) := dk_180 0 14 (dk_at dksX13_heap_0 21 rfl rfl)
theorem dX13_heap_24 : decode cX13_heap 24 = .ok (.getfield 125, 3) := dk_180 0 125 (dk_at dksX13_heap_1 0 rfl rfl)
theorem dX13_heap_27 : decode cX13_heap 27 = .ok (.iload_n 1, 1) := dk_27 (dk_at dksX13_heap_1 3 rfl rfl)
theorem dX13_heap_28 : decode cX13_heap 28 = .ok (.iaload, 1) := dk_46 (dk_at dksX13_heap_1 4 rfl rfl)
theorem dX13_heap_29 : decode cX13_heap 29 = .ok (.iconst 4, 1) := dk_7 (dk_at dksX13_heap_1 5 rfl rfl)
theorem dX13_heap_30 : decode cX13_heap 30 = .ok (.if_icmp .ge 7, 3) := dk_162 0 7 (dk_at dksX13_heap_1 6 rfl rfl)
theorem dX13_heap_33 : decode cX13_heap 33 = .ok (.iconst 1, 1) := dk_4 (dk_at dksX13_heap_1 9 rfl rfl)
theorem dX13_heap_34 : decode cX13_heap 34 = .ok (.goto 4, 3) := dk_167 0 4 (dk_at dksX13_heap_1 10 rfl rfl)
theorem dX13_heap_37 : decode cX13_heap 37 = .ok (.iconst 0, 1) := dk_3 (dk_at dksX13_heap_1 13 rfl rfl)
theorem dX13_heap_38 : decode cX13_heap 38 = .ok (.iconst 5, 1) := dk_8 (dk_at dksX13_heap_1 14 rfl rfl)
theorem dX13_heap_39 : decode cX13_heap 39 = .ok (.invokevirtual 70, 3) := dk_182 0 70 (dk_at dksX13_heap_1 15 rfl rfl)
theorem dX13_heap_42 : decode cX13_heap 42 = .ok (.aload_n 0, 1) := dk_42 (dk_at dksX13_heap_1 18 rfl rfl)
theorem dX13_heap_43 : decode cX13_heap 43 = .ok (.getfield 14, 3) := dk_180 0 14 (dk_at dksX13_heap_1 19 rfl rfl)
theorem dX13_heap_46 : decode cX13_heap 46 = .ok (.getfield 125, 3) := dk_180 0 125 (dk_at dksX13_heap_2 0 rfl rfl)
theorem dX13_heap_49 : decode cX13_heap 49 = .ok (.iload_n 1, 1) := dk_27 (dk_at dksX13_heap_2 3 rfl rfl)
theorem dX13_heap_50 : decode cX13_heap 50 = .ok (.dup2, 1) := dk_92 (dk_at dksX13_heap_2 4 rfl rfl)
theorem dX13_heap_51 : decode cX13_heap 51 = .ok (.iaload, 1) := dk_46 (dk_at dksX13_heap_2 5 rfl rfl)
theorem dX13_heap_52 : decode cX13_heap 52 = .ok (.iconst 1, 1) := dk_4 (dk_at dksX13_heap_2 6 rfl rfl)
theorem dX13_heap_53 : decode cX13_heap 53 = .ok (.iadd, 1) := dk_96 (dk_at dksX13_heap_2 7 rfl rfl)
theorem dX13_heap_54 : decode cX13_heap 54 = .ok (.iastore, 1) := dk_79 (dk_at dksX13_heap_2 8 rfl rfl)
theorem dX13_heap_55 : decode cX13_heap 55 = .ok (.aload_n 0, 1) := dk_42 (dk_at dksX13_heap_2 9 rfl rfl)
theorem dX13_heap_56 : decode cX13_heap 56 = .ok (.getfield 14, 3) := dk_180 0 14 (dk_at dksX13_heap_2 10 rfl rfl)
theorem dX13_heap_59 : decode cX13_heap 59 = .ok (.getfield 129, 3) := dk_180 0 129 (dk_at dksX13_heap_2 13 rfl rfl)
theorem dX13_heap_62 : decode cX13_heap 62 = .ok (.aload_n 0, 1) := dk_42 (dk_at dksX13_heap_2 16 rfl rfl)
theorem dX13_heap_63 : decode cX13_heap 63 = .ok (.getfield 14, 3) := dk_180 0 14 (dk_at dksX13_heap_2 17 rfl rfl)
theorem dX13_heap_66 : decode cX13_heap 66 = .ok (.getfield 131, 3) := dk_180 0 131 (dk_at dksX13_heap_2 20 rfl rfl)
theorem dX13_heap_69 : decode cX13_heap 69 = .ok (.iload_n 1, 1) := dk_27 (dk_at dksX13_heap_2 23 rfl rfl)
theorem dX13_heap_70 : decode cX13_heap 70 = .ok (.iastore, 1) := dk_79 (dk_at dksX13_heap_3 0 rfl rfl)
theorem dX13_heap_71 : decode cX13_heap 71 = .ok (.aload_n 0, 1) := dk_42 (dk_at dksX13_heap_3 1 rfl rfl)
theorem dX13_heap_72 : decode cX13_heap 72 = .ok (.getfield 14, 3) := dk_180 0 14 (dk_at dksX13_heap_3 2 rfl rfl)
theorem dX13_heap_75 : decode cX13_heap 75 = .ok (.dup, 1) := dk_89 (dk_at dksX13_heap_3 5 rfl rfl)
theorem dX13_heap_76 : decode cX13_heap 76 = .ok (.getfield 131, 3) := dk_180 0 131 (dk_at dksX13_heap_3 6 rfl rfl)
theorem dX13_heap_79 : decode cX13_heap 79 = .ok (.iconst 1, 1) := dk_4 (dk_at dksX13_heap_3 9 rfl rfl)
theorem dX13_heap_80 : decode cX13_heap 80 = .ok (.iadd, 1) := dk_96 (dk_at dksX13_heap_3 10 rfl rfl)
theorem dX13_heap_81 : decode cX13_heap 81 = .ok (.putfield 131, 3) := dk_181 0 131 (dk_at dksX13_heap_3 11 rfl rfl)
theorem dX13_heap_84 : decode cX13_heap 84 = .ok (.aload_n 0, 1) := dk_42 (dk_at dksX13_heap_3 14 rfl rfl)
theorem dX13_heap_85 : decode cX13_heap 85 = .ok (.invokevirtual 20, 3) := dk_182 0 20 (dk_at dksX13_heap_3 15 rfl rfl)
theorem dX13_heap_88 : decode cX13_heap 88 = .ok (.aload_n 0, 1) := dk_42 (dk_at dksX13_heap_3 18 rfl rfl)
theorem dX13_heap_89 : decode cX13_heap 89 = .ok (.getfield 23, 3) := dk_180 0 23 (dk_at dksX13_heap_3 19 rfl rfl)
theorem dX13_heap_92 : decode cX13_heap 92 = .ok (.iconst 3, 1) := dk_6 (dk_at dksX13_heap_3 22 rfl rfl)
theorem dX13_heap_93 : decode cX13_heap 93 = .ok (.if_icmp .eq (-89), 3) := dk_159 255 167 (dk_at dksX13_heap_4 0 rfl rfl)
theorem dX13_heap_96 : decode cX13_heap 96 = .ok (.return_, 1) := dk_177 (dk_at dksX13_heap_4 3 rfl rfl)
abbrev cX13_again : ByteArray := prog_19_method_6_code
def yX13_again : MethodName := ⟨RX13, "again", "()V"⟩
def dkwX13_again_0 : List UInt8 := [42, 4, 182, 0, 74, 42, 180, 0, 14, 4, 181, 0, 84, 177]
abbrev dktX13_again_0 : List UInt8 := dkwX13_again_0 ++ []
theorem dksX13_again_0 : cX13_again.data.toList.drop 0 = dktX13_again_0 := by decide +kernel
theorem dX13_again_0 : decode cX13_again 0 = .ok (.aload_n 0, 1) := dk_42 (dk_at dksX13_again_0 0 rfl rfl)
theorem dX13_again_1 : decode cX13_again 1 = .ok (.iconst 1, 1) := dk_4 (dk_at dksX13_again_0 1 rfl rfl)
theorem dX13_again_2 : decode cX13_again 2 = .ok (.invokevirtual 74, 3) := dk_182 0 74 (dk_at dksX13_again_0 2 rfl rfl)
theorem dX13_again_5 : decode cX13_again 5 = .ok (.aload_n 0, 1) := dk_42 (dk_at dksX13_again_0 5 rfl rfl)
theorem dX13_again_6 : decode cX13_again 6 = .ok (.getfield 14, 3) := dk_180 0 14 (dk_at dksX13_again_0 6 rfl rfl)
theorem dX13_again_9 : decode cX13_again 9 = .ok (.iconst 1, 1) := dk_4 (dk_at dksX13_again_0 9 rfl rfl)
theorem dX13_again_10 : decode cX13_again 10 = .ok (.putfield 84, 3) := dk_181 0 84 (dk_at dksX13_again_0 10 rfl rfl)
theorem dX13_again_13 : decode cX13_again 13 = .ok (.return_, 1) := dk_177 (dk_at dksX13_again_0 13 rfl rfl)
abbrev cX13_refill : ByteArray := prog_19_method_7_code
def yX13_refill : MethodName := ⟨RX13, "refill", "()V"⟩
def dkwX13_refill_1 : List UInt8 := [182, 0, 78, 181, 0, 88, 177]
abbrev dktX13_refill_1 : List UInt8 := dkwX13_refill_1 ++ []
def dkwX13_refill_0 : List UInt8 := [42, 42, 18, 87, 182, 0, 38, 4, 182, 0, 70, 42, 5, 182, 0, 74, 42, 180, 0, 14, 42, 3, 16, 9]
abbrev dktX13_refill_0 : List UInt8 := dkwX13_refill_0 ++ dktX13_refill_1
theorem dksX13_refill_0 : cX13_refill.data.toList.drop 0 = dktX13_refill_0 := by decide +kernel
theorem dksX13_refill_1 : cX13_refill.data.toList.drop 24 = dktX13_refill_1 := dk_seg dksX13_refill_0 24 rfl rfl
theorem dX13_refill_0 : decode cX13_refill 0 = .ok (.aload_n 0, 1) := dk_42 (dk_at dksX13_refill_0 0 rfl rfl)
theorem dX13_refill_1 : decode cX13_refill 1 = .ok (.aload_n 0, 1) := dk_42 (dk_at dksX13_refill_0 1 rfl rfl)
theorem dX13_refill_2 : decode cX13_refill 2 = .ok (.ldc 87, 2) := dk_18 87 (dk_at dksX13_refill_0 2 rfl rfl)
theorem dX13_refill_4 : decode cX13_refill 4 = .ok (.invokevirtual 38, 3) := dk_182 0 38 (dk_at dksX13_refill_0 4 rfl rfl)
theorem dX13_refill_7 : decode cX13_refill 7 = .ok (.iconst 1, 1) := dk_4 (dk_at dksX13_refill_0 7 rfl rfl)
theorem dX13_refill_8 : decode cX13_refill 8 = .ok (.invokevirtual 70, 3) := dk_182 0 70 (dk_at dksX13_refill_0 8 rfl rfl)
theorem dX13_refill_11 : decode cX13_refill 11 = .ok (.aload_n 0, 1) := dk_42 (dk_at dksX13_refill_0 11 rfl rfl)
theorem dX13_refill_12 : decode cX13_refill 12 = .ok (.iconst 2, 1) := dk_5 (dk_at dksX13_refill_0 12 rfl rfl)
theorem dX13_refill_13 : decode cX13_refill 13 = .ok (.invokevirtual 74, 3) := dk_182 0 74 (dk_at dksX13_refill_0 13 rfl rfl)
theorem dX13_refill_16 : decode cX13_refill 16 = .ok (.aload_n 0, 1) := dk_42 (dk_at dksX13_refill_0 16 rfl rfl)
theorem dX13_refill_17 : decode cX13_refill 17 = .ok (.getfield 14, 3) := dk_180 0 14 (dk_at dksX13_refill_0 17 rfl rfl)
theorem dX13_refill_20 : decode cX13_refill 20 = .ok (.aload_n 0, 1) := dk_42 (dk_at dksX13_refill_0 20 rfl rfl)
theorem dX13_refill_21 : decode cX13_refill 21 = .ok (.iconst 0, 1) := dk_3 (dk_at dksX13_refill_0 21 rfl rfl)
theorem dX13_refill_22 : decode cX13_refill 22 = .ok (.bipush 9, 2) := dk_16 9 (dk_at dksX13_refill_0 22 rfl rfl)
theorem dX13_refill_24 : decode cX13_refill 24 = .ok (.invokevirtual 78, 3) := dk_182 0 78 (dk_at dksX13_refill_1 0 rfl rfl)
theorem dX13_refill_27 : decode cX13_refill 27 = .ok (.putfield 88, 3) := dk_181 0 88 (dk_at dksX13_refill_1 3 rfl rfl)
theorem dX13_refill_30 : decode cX13_refill 30 = .ok (.return_, 1) := dk_177 (dk_at dksX13_refill_1 6 rfl rfl)
theorem q136 : (Jvm.Cond.initialized "SevenTable$TableReader") ∈ lw_all := lw_g (lw_at lw_m1 19 rfl) rfl
theorem q204 : (Jvm.Cond.fieldLinkNest "SevenTable$TableReader" (82 : Nat) "SevenTable$Table" "kinds" "I" "SevenTable") ∈ lw_tbl := lw_at lw_m1 87 rfl
theorem q207 : (Jvm.Cond.fieldLinkNest "SevenTable$TableReader" (88 : Nat) "SevenTable$Table" "refill" "I" "SevenTable") ∈ lw_tbl := lw_at lw_m1 90 rfl
theorem q211 : (Jvm.Cond.fieldLinkNest "SevenTable$TableReader" (33 : Nat) "SevenTable$Table" "lines" "I" "SevenTable") ∈ lw_tbl := lw_at lw_m1 94 rfl
theorem q214 : (Jvm.Cond.fieldLinkNest "SevenTable$TableReader" (131 : Nat) "SevenTable$Table" "heaped" "I" "SevenTable") ∈ lw_tbl := lw_at lw_m1 97 rfl
theorem q215 : (Jvm.Cond.fieldLinkNest "SevenTable$TableReader" (84 : Nat) "SevenTable$Table" "again" "Z" "SevenTable") ∈ lw_tbl := lw_at lw_m1 98 rfl
theorem q221 : (Jvm.Cond.fieldLinkNest "SevenTable$TableReader" (98 : Nat) "SevenTable$Table" "names" "Ljava/util/ArrayList;" "SevenTable") ∈ lw_tbl := lw_at lw_m1 104 rfl
theorem q225 : (Jvm.Cond.fieldLinkNest "SevenTable$TableReader" (122 : Nat) "SevenTable$Table" "hand" "[[I" "SevenTable") ∈ lw_tbl := lw_at lw_m1 108 rfl
theorem q228 : (Jvm.Cond.fieldLinkNest "SevenTable$TableReader" (129 : Nat) "SevenTable$Table" "heap" "[I" "SevenTable") ∈ lw_tbl := lw_at lw_m1 111 rfl
theorem q231 : (Jvm.Cond.fieldLinkNest "SevenTable$TableReader" (125 : Nat) "SevenTable$Table" "cards" "[I" "SevenTable") ∈ lw_tbl := lw_at lw_m1 114 rfl
theorem q605 : (Jvm.Cond.instantiable "SevenTable$TableReader" (11 : Nat)) ∈ lw_all := lw_g (lw_at lw_m3 8 rfl) rfl
theorem q607 : (Jvm.Cond.instanceMethod ({ cls := "SevenTable$TableReader", name := "<init>", desc := "([BI)V" } : Jvm.MethodName)) ∈ lw_all := lw_g (lw_at lw_m3 10 rfl) rfl
theorem q608 : (Jvm.Cond.code ({ cls := "SevenTable$TableReader", name := "<init>", desc := "([BI)V" } : Jvm.MethodName) prog_19_method_1_code (3 : Nat) (Option.none : Option Jvm.ClassFile.FieldType)) ∈ lw_all := lw_g (lw_at lw_m3 11 rfl) rfl
theorem q609 : (Jvm.Cond.methodLink "SevenTable$TableReader" (3 : Nat) ({ cls := "SevenTable$Reader", name := "<init>", desc := "([BII)V" } : Jvm.MethodName)) ∈ lw_all := lw_g (lw_at lw_m3 12 rfl) rfl
theorem q614 : (Jvm.Cond.classLink "SevenTable$TableReader" (9 : Nat) "SevenTable$Table") ∈ lw_all := lw_g (lw_at lw_m3 17 rfl) rfl
theorem q615 : (Jvm.Cond.methodLinkNest "SevenTable$TableReader" (11 : Nat) ({ cls := "SevenTable$Table", name := "<init>", desc := "()V" } : Jvm.MethodName) "SevenTable") ∈ lw_tbl := lw_at lw_m3 18 rfl
theorem q616 : (Jvm.Cond.fieldLink "SevenTable$TableReader" (14 : Nat) "SevenTable$TableReader" "t" "LSevenTable$Table;") ∈ lw_all := lw_g (lw_at lw_m3 19 rfl) rfl
theorem q617 : (Jvm.Cond.fieldLink "SevenTable$TableReader" (63 : Nat) "SevenTable$TableReader" "onces" "I") ∈ lw_all := lw_g (lw_at lw_m3 20 rfl) rfl
theorem q622 : (Jvm.Cond.fieldLink "SevenTable$TableReader" (23 : Nat) "SevenTable$TableReader" "kind" "I") ∈ lw_all := lw_g (lw_at lw_m3 25 rfl) rfl
theorem q623 : (Jvm.Cond.sameField "SevenTable$TableReader" "SevenTable$Reader" "kind" "I") ∈ lw_all := lw_g (lw_at lw_m3 26 rfl) rfl
theorem q637 : (Jvm.Cond.fieldLink "SevenTable$TableReader" (102 : Nat) "SevenTable$TableReader" "word" "Ljava/lang/String;") ∈ lw_all := lw_g (lw_at lw_m3 40 rfl) rfl
theorem q638 : (Jvm.Cond.sameField "SevenTable$TableReader" "SevenTable$Reader" "word" "Ljava/lang/String;") ∈ lw_all := lw_g (lw_at lw_m3 41 rfl) rfl
theorem q639 : (Jvm.Cond.laysFinal "SevenTable$TableReader" "SevenTable$TableReader" "t" "LSevenTable$Table;") ∈ lw_all := lw_g (lw_at lw_m3 42 rfl) rfl
theorem q640 : (Jvm.Cond.soleField "SevenTable$TableReader" "t") ∈ lw_all := lw_g (lw_at lw_m3 43 rfl) rfl
theorem q641 : (Jvm.Cond.lays "SevenTable$TableReader" "SevenTable$TableReader" "onces" "I") ∈ lw_all := lw_g (lw_at lw_m3 44 rfl) rfl
theorem q642 : (Jvm.Cond.soleField "SevenTable$TableReader" "onces") ∈ lw_all := lw_g (lw_at lw_m3 45 rfl) rfl
theorem q643 : (Jvm.Cond.laysFinal "SevenTable$TableReader" "SevenTable$Reader" "tape" "[B") ∈ lw_all := lw_g (lw_at lw_m3 46 rfl) rfl
theorem q645 : (Jvm.Cond.laysFinal "SevenTable$TableReader" "SevenTable$Reader" "size" "I") ∈ lw_all := lw_g (lw_at lw_m3 48 rfl) rfl
theorem q647 : (Jvm.Cond.laysFinal "SevenTable$TableReader" "SevenTable$Reader" "limit" "I") ∈ lw_all := lw_g (lw_at lw_m3 50 rfl) rfl
theorem q649 : (Jvm.Cond.lays "SevenTable$TableReader" "SevenTable$Reader" "to" "I") ∈ lw_all := lw_g (lw_at lw_m3 52 rfl) rfl
theorem q651 : (Jvm.Cond.lays "SevenTable$TableReader" "SevenTable$Reader" "kind" "I") ∈ lw_all := lw_g (lw_at lw_m3 54 rfl) rfl
theorem q653 : (Jvm.Cond.lays "SevenTable$TableReader" "SevenTable$Reader" "from" "I") ∈ lw_all := lw_g (lw_at lw_m3 56 rfl) rfl
theorem q655 : (Jvm.Cond.lays "SevenTable$TableReader" "SevenTable$Reader" "number" "I") ∈ lw_all := lw_g (lw_at lw_m3 58 rfl) rfl
theorem q657 : (Jvm.Cond.lays "SevenTable$TableReader" "SevenTable$Reader" "sign" "I") ∈ lw_all := lw_g (lw_at lw_m3 60 rfl) rfl
theorem q659 : (Jvm.Cond.lays "SevenTable$TableReader" "SevenTable$Reader" "word" "Ljava/lang/String;") ∈ lw_all := lw_g (lw_at lw_m3 62 rfl) rfl
theorem q661 : (Jvm.Cond.superclass "SevenTable$TableReader" "SevenTable$Reader") ∈ lw_all := lw_g (lw_at lw_m3 64 rfl) rfl
theorem q663 : (Jvm.Cond.instanceMethod ({ cls := "SevenTable$TableReader", name := "read", desc := "()LSevenTable$Table;" } : Jvm.MethodName)) ∈ lw_all := lw_g (lw_at lw_m3 66 rfl) rfl
theorem q664 : (Jvm.Cond.selects "SevenTable$TableReader" ({ cls := "SevenTable$TableReader", name := "read", desc := "()LSevenTable$Table;" } : Jvm.MethodName) ({ cls := "SevenTable$TableReader", name := "read", desc := "()LSevenTable$Table;" } : Jvm.MethodName)) ∈ lw_all := lw_g (lw_at lw_m3 67 rfl) rfl
theorem q665 : (Jvm.Cond.code ({ cls := "SevenTable$TableReader", name := "read", desc := "()LSevenTable$Table;" } : Jvm.MethodName) prog_19_method_2_code (1 : Nat) (Option.some (Jvm.ClassFile.FieldType.object "SevenTable$Table"))) ∈ lw_all := lw_g (lw_at lw_m3 68 rfl) rfl
theorem q666 : (Jvm.Cond.methodLink "SevenTable$TableReader" (20 : Nat) ({ cls := "SevenTable$TableReader", name := "go", desc := "()V" } : Jvm.MethodName)) ∈ lw_all := lw_g (lw_at lw_m3 69 rfl) rfl
theorem q667 : (Jvm.Cond.sameMethod "SevenTable$TableReader" "SevenTable$Reader" "go" "()V") ∈ lw_all := lw_g (lw_at lw_m3 70 rfl) rfl
theorem q669 : (Jvm.Cond.selects "SevenTable$TableReader" ({ cls := "SevenTable$TableReader", name := "go", desc := "()V" } : Jvm.MethodName) ({ cls := "SevenTable$Reader", name := "go", desc := "()V" } : Jvm.MethodName)) ∈ lw_all := lw_g (lw_at lw_m3 72 rfl) rfl
theorem q863 : (Jvm.Cond.methodLink "SevenTable$TableReader" (27 : Nat) ({ cls := "SevenTable$TableReader", name := "line", desc := "()V" } : Jvm.MethodName)) ∈ lw_all := lw_g (lw_at lw_m4 26 rfl) rfl
theorem q864 : (Jvm.Cond.privateMethod ({ cls := "SevenTable$TableReader", name := "line", desc := "()V" } : Jvm.MethodName)) ∈ lw_tbl := lw_at lw_m4 27 rfl
theorem q865 : (Jvm.Cond.instanceMethod ({ cls := "SevenTable$TableReader", name := "line", desc := "()V" } : Jvm.MethodName)) ∈ lw_all := lw_g (lw_at lw_m4 28 rfl) rfl
theorem q866 : (Jvm.Cond.code ({ cls := "SevenTable$TableReader", name := "line", desc := "()V" } : Jvm.MethodName) prog_19_method_3_code (1 : Nat) (Option.none : Option Jvm.ClassFile.FieldType)) ∈ lw_all := lw_g (lw_at lw_m4 29 rfl) rfl
theorem q867 : (Jvm.Cond.stringRef "SevenTable$TableReader" (36 : Nat) "kinds") ∈ lw_tbl := lw_at lw_m4 30 rfl
theorem q868 : (Jvm.Cond.methodLink "SevenTable$TableReader" (38 : Nat) ({ cls := "SevenTable$TableReader", name := "is", desc := "(Ljava/lang/String;)Z" } : Jvm.MethodName)) ∈ lw_all := lw_g (lw_at lw_m4 31 rfl) rfl
theorem q869 : (Jvm.Cond.sameMethod "SevenTable$TableReader" "SevenTable$Reader" "is" "(Ljava/lang/String;)Z") ∈ lw_all := lw_g (lw_at lw_m4 32 rfl) rfl
theorem q871 : (Jvm.Cond.selects "SevenTable$TableReader" ({ cls := "SevenTable$TableReader", name := "is", desc := "(Ljava/lang/String;)Z" } : Jvm.MethodName) ({ cls := "SevenTable$Reader", name := "is", desc := "(Ljava/lang/String;)Z" } : Jvm.MethodName)) ∈ lw_all := lw_g (lw_at lw_m4 34 rfl) rfl
theorem q882 : (Jvm.Cond.methodLink "SevenTable$TableReader" (42 : Nat) ({ cls := "SevenTable$TableReader", name := "kinds", desc := "()V" } : Jvm.MethodName)) ∈ lw_all := lw_g (lw_at lw_m4 45 rfl) rfl
theorem q883 : (Jvm.Cond.privateMethod ({ cls := "SevenTable$TableReader", name := "kinds", desc := "()V" } : Jvm.MethodName)) ∈ lw_tbl := lw_at lw_m4 46 rfl
theorem q884 : (Jvm.Cond.instanceMethod ({ cls := "SevenTable$TableReader", name := "kinds", desc := "()V" } : Jvm.MethodName)) ∈ lw_all := lw_g (lw_at lw_m4 47 rfl) rfl
theorem q885 : (Jvm.Cond.code ({ cls := "SevenTable$TableReader", name := "kinds", desc := "()V" } : Jvm.MethodName) prog_19_method_5_code (1 : Nat) (Option.none : Option Jvm.ClassFile.FieldType)) ∈ lw_all := lw_g (lw_at lw_m4 48 rfl) rfl
theorem q886 : (Jvm.Cond.methodLink "SevenTable$TableReader" (74 : Nat) ({ cls := "SevenTable$TableReader", name := "once", desc := "(I)V" } : Jvm.MethodName)) ∈ lw_all := lw_g (lw_at lw_m4 49 rfl) rfl
theorem q887 : (Jvm.Cond.privateMethod ({ cls := "SevenTable$TableReader", name := "once", desc := "(I)V" } : Jvm.MethodName)) ∈ lw_tbl := lw_at lw_m4 50 rfl
theorem q888 : (Jvm.Cond.instanceMethod ({ cls := "SevenTable$TableReader", name := "once", desc := "(I)V" } : Jvm.MethodName)) ∈ lw_all := lw_g (lw_at lw_m4 51 rfl) rfl
theorem q889 : (Jvm.Cond.code ({ cls := "SevenTable$TableReader", name := "once", desc := "(I)V" } : Jvm.MethodName) prog_19_method_4_code (2 : Nat) (Option.none : Option Jvm.ClassFile.FieldType)) ∈ lw_all := lw_g (lw_at lw_m4 52 rfl) rfl
theorem q890 : (Jvm.Cond.methodLinkNest "SevenTable$TableReader" (66 : Nat) ({ cls := "SevenTable", name := "isOf", desc := "(II)Z" } : Jvm.MethodName) "SevenTable") ∈ lw_tbl := lw_at lw_m4 53 rfl
theorem q891 : (Jvm.Cond.methodLink "SevenTable$TableReader" (70 : Nat) ({ cls := "SevenTable$TableReader", name := "need", desc := "(ZI)V" } : Jvm.MethodName)) ∈ lw_all := lw_g (lw_at lw_m4 54 rfl) rfl
theorem q892 : (Jvm.Cond.sameMethod "SevenTable$TableReader" "SevenTable$Reader" "need" "(ZI)V") ∈ lw_all := lw_g (lw_at lw_m4 55 rfl) rfl
theorem q894 : (Jvm.Cond.selects "SevenTable$TableReader" ({ cls := "SevenTable$TableReader", name := "need", desc := "(ZI)V" } : Jvm.MethodName) ({ cls := "SevenTable$Reader", name := "need", desc := "(ZI)V" } : Jvm.MethodName)) ∈ lw_all := lw_g (lw_at lw_m4 57 rfl) rfl
theorem q962 : (Jvm.Cond.methodLink "SevenTable$TableReader" (78 : Nat) ({ cls := "SevenTable$TableReader", name := "number", desc := "(II)I" } : Jvm.MethodName)) ∈ lw_all := lw_g (lw_at lw_m4 125 rfl) rfl
theorem q963 : (Jvm.Cond.sameMethod "SevenTable$TableReader" "SevenTable$Reader" "number" "(II)I") ∈ lw_all := lw_g (lw_at lw_m4 126 rfl) rfl
theorem q965 : (Jvm.Cond.selects "SevenTable$TableReader" ({ cls := "SevenTable$TableReader", name := "number", desc := "(II)I" } : Jvm.MethodName) ({ cls := "SevenTable$Reader", name := "number", desc := "(II)I" } : Jvm.MethodName)) ∈ lw_all := lw_g (lw_at lw_m4 128 rfl) rfl
theorem q973 : (Jvm.Cond.selects "SevenTable$TableReader" ({ cls := "SevenTable$Reader", name := "hold", desc := "(II)I" } : Jvm.MethodName) ({ cls := "SevenTable$Reader", name := "hold", desc := "(II)I" } : Jvm.MethodName)) ∈ lw_all := lw_g (lw_at lw_m4 136 rfl) rfl
theorem q980 : (Jvm.Cond.stringRef "SevenTable$TableReader" (44 : Nat) "person") ∈ lw_tbl := lw_at lw_m4 143 rfl
theorem q981 : (Jvm.Cond.methodLink "SevenTable$TableReader" (46 : Nat) ({ cls := "SevenTable$TableReader", name := "person", desc := "()V" } : Jvm.MethodName)) ∈ lw_all := lw_g (lw_at lw_m4 144 rfl) rfl
theorem q982 : (Jvm.Cond.privateMethod ({ cls := "SevenTable$TableReader", name := "person", desc := "()V" } : Jvm.MethodName)) ∈ lw_tbl := lw_at lw_m4 145 rfl
theorem q983 : (Jvm.Cond.instanceMethod ({ cls := "SevenTable$TableReader", name := "person", desc := "()V" } : Jvm.MethodName)) ∈ lw_all := lw_g (lw_at lw_m4 146 rfl) rfl
theorem q984 : (Jvm.Cond.code ({ cls := "SevenTable$TableReader", name := "person", desc := "()V" } : Jvm.MethodName) prog_19_method_8_code (1 : Nat) (Option.none : Option Jvm.ClassFile.FieldType)) ∈ lw_all := lw_g (lw_at lw_m4 147 rfl) rfl
theorem q985 : (Jvm.Cond.methodLink "SevenTable$TableReader" (90 : Nat) ({ cls := "SevenTable$Table", name := "many", desc := "()I" } : Jvm.MethodName)) ∈ lw_all := lw_g (lw_at lw_m4 148 rfl) rfl
theorem q986 : (Jvm.Cond.methodLink "SevenTable$TableReader" (94 : Nat) ({ cls := "SevenTable$TableReader", name := "isName", desc := "()Z" } : Jvm.MethodName)) ∈ lw_all := lw_g (lw_at lw_m4 149 rfl) rfl
theorem q987 : (Jvm.Cond.sameMethod "SevenTable$TableReader" "SevenTable$Reader" "isName" "()Z") ∈ lw_all := lw_g (lw_at lw_m4 150 rfl) rfl
theorem q989 : (Jvm.Cond.selects "SevenTable$TableReader" ({ cls := "SevenTable$TableReader", name := "isName", desc := "()Z" } : Jvm.MethodName) ({ cls := "SevenTable$Reader", name := "isName", desc := "()Z" } : Jvm.MethodName)) ∈ lw_all := lw_g (lw_at lw_m4 152 rfl) rfl
theorem q1066 : (Jvm.Cond.methodLink "SevenTable$TableReader" (106 : Nat) ({ cls := "java/util/ArrayList", name := "indexOf", desc := "(Ljava/lang/Object;)I" } : Jvm.MethodName)) ∈ lw_all := lw_g (lw_at lw_m4 229 rfl) rfl
theorem q1093 : (Jvm.Cond.selects "SevenTable$TableReader" ({ cls := "java/lang/Object", name := "equals", desc := "(Ljava/lang/Object;)Z" } : Jvm.MethodName) ({ cls := "java/lang/Object", name := "equals", desc := "(Ljava/lang/Object;)Z" } : Jvm.MethodName)) ∈ lw_all := lw_g (lw_at lw_m5 16 rfl) rfl
theorem q1100 : (Jvm.Cond.methodLink "SevenTable$TableReader" (112 : Nat) ({ cls := "java/util/ArrayList", name := "add", desc := "(Ljava/lang/Object;)Z" } : Jvm.MethodName)) ∈ lw_all := lw_g (lw_at lw_m5 23 rfl) rfl
theorem q1138 : (Jvm.Cond.selects "SevenTable$TableReader" ({ cls := "java/lang/Object", name := "getClass", desc := "()Ljava/lang/Class;" } : Jvm.MethodName) ({ cls := "java/lang/Object", name := "getClass", desc := "()Ljava/lang/Class;" } : Jvm.MethodName)) ∈ lw_all := lw_g (lw_at lw_m5 61 rfl) rfl
theorem q1155 : (Jvm.Cond.stringRef "SevenTable$TableReader" (48 : Nat) "hand") ∈ lw_tbl := lw_at lw_m5 78 rfl
theorem q1156 : (Jvm.Cond.methodLink "SevenTable$TableReader" (50 : Nat) ({ cls := "SevenTable$TableReader", name := "hand", desc := "()V" } : Jvm.MethodName)) ∈ lw_all := lw_g (lw_at lw_m5 79 rfl) rfl
theorem q1157 : (Jvm.Cond.privateMethod ({ cls := "SevenTable$TableReader", name := "hand", desc := "()V" } : Jvm.MethodName)) ∈ lw_tbl := lw_at lw_m5 80 rfl
theorem q1158 : (Jvm.Cond.instanceMethod ({ cls := "SevenTable$TableReader", name := "hand", desc := "()V" } : Jvm.MethodName)) ∈ lw_all := lw_g (lw_at lw_m5 81 rfl) rfl
theorem q1159 : (Jvm.Cond.code ({ cls := "SevenTable$TableReader", name := "hand", desc := "()V" } : Jvm.MethodName) prog_19_method_9_code (4 : Nat) (Option.none : Option Jvm.ClassFile.FieldType)) ∈ lw_all := lw_g (lw_at lw_m5 82 rfl) rfl
theorem q1160 : (Jvm.Cond.methodLink "SevenTable$TableReader" (116 : Nat) ({ cls := "SevenTable$TableReader", name := "person", desc := "(LSevenTable$Table;)I" } : Jvm.MethodName)) ∈ lw_all := lw_g (lw_at lw_m5 83 rfl) rfl
theorem q1161 : (Jvm.Cond.sameMethod "SevenTable$TableReader" "SevenTable$Reader" "person" "(LSevenTable$Table;)I") ∈ lw_all := lw_g (lw_at lw_m5 84 rfl) rfl
theorem q1163 : (Jvm.Cond.selects "SevenTable$TableReader" ({ cls := "SevenTable$TableReader", name := "person", desc := "(LSevenTable$Table;)I" } : Jvm.MethodName) ({ cls := "SevenTable$Reader", name := "person", desc := "(LSevenTable$Table;)I" } : Jvm.MethodName)) ∈ lw_all := lw_g (lw_at lw_m5 86 rfl) rfl
theorem q1168 : (Jvm.Cond.methodLink "SevenTable$TableReader" (119 : Nat) ({ cls := "SevenTable$TableReader", name := "hold", desc := "(II)I" } : Jvm.MethodName)) ∈ lw_all := lw_g (lw_at lw_m5 91 rfl) rfl
theorem q1169 : (Jvm.Cond.sameMethod "SevenTable$TableReader" "SevenTable$Reader" "hold" "(II)I") ∈ lw_all := lw_g (lw_at lw_m5 92 rfl) rfl
theorem q1171 : (Jvm.Cond.selects "SevenTable$TableReader" ({ cls := "SevenTable$TableReader", name := "hold", desc := "(II)I" } : Jvm.MethodName) ({ cls := "SevenTable$Reader", name := "hold", desc := "(II)I" } : Jvm.MethodName)) ∈ lw_all := lw_g (lw_at lw_m5 94 rfl) rfl
theorem q1172 : (Jvm.Cond.stringRef "SevenTable$TableReader" (52 : Nat) "heap") ∈ lw_tbl := lw_at lw_m5 95 rfl
theorem q1173 : (Jvm.Cond.methodLink "SevenTable$TableReader" (54 : Nat) ({ cls := "SevenTable$TableReader", name := "heap", desc := "()V" } : Jvm.MethodName)) ∈ lw_all := lw_g (lw_at lw_m5 96 rfl) rfl
theorem q1174 : (Jvm.Cond.privateMethod ({ cls := "SevenTable$TableReader", name := "heap", desc := "()V" } : Jvm.MethodName)) ∈ lw_tbl := lw_at lw_m5 97 rfl
theorem q1175 : (Jvm.Cond.instanceMethod ({ cls := "SevenTable$TableReader", name := "heap", desc := "()V" } : Jvm.MethodName)) ∈ lw_all := lw_g (lw_at lw_m5 98 rfl) rfl
theorem q1176 : (Jvm.Cond.code ({ cls := "SevenTable$TableReader", name := "heap", desc := "()V" } : Jvm.MethodName) prog_19_method_10_code (2 : Nat) (Option.none : Option Jvm.ClassFile.FieldType)) ∈ lw_all := lw_g (lw_at lw_m5 99 rfl) rfl
theorem q1177 : (Jvm.Cond.stringRef "SevenTable$TableReader" (56 : Nat) "again") ∈ lw_tbl := lw_at lw_m5 100 rfl
theorem q1178 : (Jvm.Cond.methodLink "SevenTable$TableReader" (58 : Nat) ({ cls := "SevenTable$TableReader", name := "again", desc := "()V" } : Jvm.MethodName)) ∈ lw_all := lw_g (lw_at lw_m5 101 rfl) rfl
theorem q1179 : (Jvm.Cond.privateMethod ({ cls := "SevenTable$TableReader", name := "again", desc := "()V" } : Jvm.MethodName)) ∈ lw_tbl := lw_at lw_m5 102 rfl
theorem q1180 : (Jvm.Cond.instanceMethod ({ cls := "SevenTable$TableReader", name := "again", desc := "()V" } : Jvm.MethodName)) ∈ lw_all := lw_g (lw_at lw_m5 103 rfl) rfl
theorem q1181 : (Jvm.Cond.code ({ cls := "SevenTable$TableReader", name := "again", desc := "()V" } : Jvm.MethodName) prog_19_method_6_code (1 : Nat) (Option.none : Option Jvm.ClassFile.FieldType)) ∈ lw_all := lw_g (lw_at lw_m5 104 rfl) rfl
theorem q1182 : (Jvm.Cond.methodLink "SevenTable$TableReader" (60 : Nat) ({ cls := "SevenTable$TableReader", name := "refill", desc := "()V" } : Jvm.MethodName)) ∈ lw_all := lw_g (lw_at lw_m5 105 rfl) rfl
theorem q1183 : (Jvm.Cond.privateMethod ({ cls := "SevenTable$TableReader", name := "refill", desc := "()V" } : Jvm.MethodName)) ∈ lw_tbl := lw_at lw_m5 106 rfl
theorem q1184 : (Jvm.Cond.instanceMethod ({ cls := "SevenTable$TableReader", name := "refill", desc := "()V" } : Jvm.MethodName)) ∈ lw_all := lw_g (lw_at lw_m5 107 rfl) rfl
theorem q1185 : (Jvm.Cond.code ({ cls := "SevenTable$TableReader", name := "refill", desc := "()V" } : Jvm.MethodName) prog_19_method_7_code (1 : Nat) (Option.none : Option Jvm.ClassFile.FieldType)) ∈ lw_all := lw_g (lw_at lw_m5 108 rfl) rfl
theorem q1186 : (Jvm.Cond.stringRef "SevenTable$TableReader" (87 : Nat) "refill") ∈ lw_tbl := lw_at lw_m5 109 rfl
theorem q1187 : (Jvm.Cond.methodLink "SevenTable$TableReader" (30 : Nat) ({ cls := "SevenTable$TableReader", name := "end", desc := "()V" } : Jvm.MethodName)) ∈ lw_all := lw_g (lw_at lw_m5 110 rfl) rfl
theorem q1188 : (Jvm.Cond.sameMethod "SevenTable$TableReader" "SevenTable$Reader" "end" "()V") ∈ lw_all := lw_g (lw_at lw_m5 111 rfl) rfl
theorem q1190 : (Jvm.Cond.selects "SevenTable$TableReader" ({ cls := "SevenTable$TableReader", name := "end", desc := "()V" } : Jvm.MethodName) ({ cls := "SevenTable$Reader", name := "end", desc := "()V" } : Jvm.MethodName)) ∈ lw_all := lw_g (lw_at lw_m5 113 rfl) rfl
theorem q2479 : (Jvm.Cond.selects "SevenTable$TableReader" ({ cls := "SevenTable$Reader", name := "need", desc := "(ZI)V" } : Jvm.MethodName) ({ cls := "SevenTable$Reader", name := "need", desc := "(ZI)V" } : Jvm.MethodName)) ∈ lw_all := lw_g (lw_at lw_m10 202 rfl) rfl
theorem q2483 : (Jvm.Cond.selects "SevenTable$TableReader" ({ cls := "SevenTable$Reader", name := "go", desc := "()V" } : Jvm.MethodName) ({ cls := "SevenTable$Reader", name := "go", desc := "()V" } : Jvm.MethodName)) ∈ lw_all := lw_g (lw_at lw_m10 206 rfl) rfl
theorem q2491 : (Jvm.Cond.selects "SevenTable$TableReader" ({ cls := "SevenTable$Reader", name := "isName", desc := "()Z" } : Jvm.MethodName) ({ cls := "SevenTable$Reader", name := "isName", desc := "()Z" } : Jvm.MethodName)) ∈ lw_all := lw_g (lw_at lw_m10 214 rfl) rfl
theorem q2505 : (Jvm.Cond.castable "SevenTable$TableReader" "java/lang/Object") ∈ lw_tbl := lw_at lw_m10 228 rfl
theorem in_X13 : ∀ w ∈ wsX130, w ∈ lw_all := lw_in wsX130 [643, 645, 647, 649, 651, 653, 655, 657, 659, 639, 641] (by decide +kernel) (by decide +kernel)
/-! SevenTable$Fault -/
set_option maxRecDepth 100000
def RX14 : String := "SevenTable$Fault"
def TX14 : u_T := fun k => match k with
  | 0 => ("java/lang/Throwable", "cause", "Ljava/lang/Throwable;", false)
  | 1 => ("java/lang/Throwable", "stackTrace", "[Ljava/lang/StackTraceElement;", false)
  | 2 => ("java/lang/Throwable", "suppressedExceptions", "Ljava/util/List;", false)
  | 3 => ("java/lang/Throwable", "detailMessage", "Ljava/lang/String;", false)
  | 4 => ("java/lang/Throwable", "backtrace", "Ljava/lang/Object;", false)
  | 5 => ("java/lang/Throwable", "depth", "I", false)
  | 6 => ("SevenTable$Fault", "kind", "I", true)
  | _ => ("SevenTable$Fault", "place", "I", true)
def tyX14 : Nat → FieldType := fun k => match k with
  | 0 => .object "java/lang/Throwable"
  | 1 => .array (.object "java/lang/StackTraceElement")
  | 2 => .object "java/util/List"
  | 3 => .object "java/lang/String"
  | 4 => .object "java/lang/Object"
  | 5 => .int
  | 6 => .int
  | _ => .int
abbrev wsX140 : List Cond := u_ws RX14 TX14 8
theorem nmX14 : ∀ a, a < 8 → ∀ b, b < 8 → a ≠ b → (TX14 a).2.1 ≠ (TX14 b).2.1 := by decide +kernel
theorem tyX14_ok : ∀ k, k < 8 → parseFieldDescriptor (TX14 k).2.2.1 = some (tyX14 k) := by decide +kernel
abbrev cX14_init : ByteArray := prog_5_method_1_code
def yX14_init : MethodName := ⟨RX14, "<init>", "(II)V"⟩
def dkwX14_init_0 : List UInt8 := [42, 183, 0, 1, 42, 27, 181, 0, 7, 42, 28, 181, 0, 13, 177]
abbrev dktX14_init_0 : List UInt8 := dkwX14_init_0 ++ []
theorem dksX14_init_0 : cX14_init.data.toList.drop 0 = dktX14_init_0 := by decide +kernel
theorem dX14_init_0 : decode cX14_init 0 = .ok (.aload_n 0, 1) := dk_42 (dk_at dksX14_init_0 0 rfl rfl)
theorem dX14_init_1 : decode cX14_init 1 = .ok (.invokespecial 1, 3) := dk_183 0 1 (dk_at dksX14_init_0 1 rfl rfl)
theorem dX14_init_4 : decode cX14_init 4 = .ok (.aload_n 0, 1) := dk_42 (dk_at dksX14_init_0 4 rfl rfl)
theorem dX14_init_5 : decode cX14_init 5 = .ok (.iload_n 1, 1) := dk_27 (dk_at dksX14_init_0 5 rfl rfl)
theorem dX14_init_6 : decode cX14_init 6 = .ok (.putfield 7, 3) := dk_181 0 7 (dk_at dksX14_init_0 6 rfl rfl)
theorem dX14_init_9 : decode cX14_init 9 = .ok (.aload_n 0, 1) := dk_42 (dk_at dksX14_init_0 9 rfl rfl)
theorem dX14_init_10 : decode cX14_init 10 = .ok (.iload_n 2, 1) := dk_28 (dk_at dksX14_init_0 10 rfl rfl)
theorem dX14_init_11 : decode cX14_init 11 = .ok (.putfield 13, 3) := dk_181 0 13 (dk_at dksX14_init_0 11 rfl rfl)
theorem dX14_init_14 : decode cX14_init 14 = .ok (.return_, 1) := dk_177 (dk_at dksX14_init_0 14 rfl rfl)
theorem q146 : (Jvm.Cond.initialized "SevenTable$Fault") ∈ lw_all := lw_g (lw_at lw_m1 29 rfl) rfl
theorem q898 : (Jvm.Cond.instantiable "SevenTable$Fault" (8 : Nat)) ∈ lw_all := lw_g (lw_at lw_m4 61 rfl) rfl
theorem q899 : (Jvm.Cond.castable "SevenTable$Fault" "SevenTable$Fault") ∈ lw_tbl := lw_at lw_m4 62 rfl
theorem q904 : (Jvm.Cond.selects "SevenTable$Fault" ({ cls := "java/lang/Throwable", name := "fillInStackTrace", desc := "(I)Ljava/lang/Throwable;" } : Jvm.MethodName) ({ cls := "java/lang/Throwable", name := "fillInStackTrace", desc := "(I)Ljava/lang/Throwable;" } : Jvm.MethodName)) ∈ lw_all := lw_g (lw_at lw_m4 67 rfl) rfl
theorem q905 : (Jvm.Cond.selects "SevenTable$Fault" ({ cls := "java/lang/Throwable", name := "fillInStackTrace", desc := "()Ljava/lang/Throwable;" } : Jvm.MethodName) ({ cls := "java/lang/Throwable", name := "fillInStackTrace", desc := "()Ljava/lang/Throwable;" } : Jvm.MethodName)) ∈ lw_all := lw_g (lw_at lw_m4 68 rfl) rfl
theorem q906 : (Jvm.Cond.lays "SevenTable$Fault" "java/lang/Throwable" "cause" "Ljava/lang/Throwable;") ∈ lw_all := lw_g (lw_at lw_m4 69 rfl) rfl
theorem q908 : (Jvm.Cond.lays "SevenTable$Fault" "java/lang/Throwable" "stackTrace" "[Ljava/lang/StackTraceElement;") ∈ lw_all := lw_g (lw_at lw_m4 71 rfl) rfl
theorem q910 : (Jvm.Cond.lays "SevenTable$Fault" "java/lang/Throwable" "suppressedExceptions" "Ljava/util/List;") ∈ lw_all := lw_g (lw_at lw_m4 73 rfl) rfl
theorem q912 : (Jvm.Cond.lays "SevenTable$Fault" "java/lang/Throwable" "detailMessage" "Ljava/lang/String;") ∈ lw_all := lw_g (lw_at lw_m4 75 rfl) rfl
theorem q914 : (Jvm.Cond.lays "SevenTable$Fault" "java/lang/Throwable" "backtrace" "Ljava/lang/Object;") ∈ lw_all := lw_g (lw_at lw_m4 77 rfl) rfl
theorem q936 : (Jvm.Cond.instanceMethod ({ cls := "SevenTable$Fault", name := "<init>", desc := "(II)V" } : Jvm.MethodName)) ∈ lw_all := lw_g (lw_at lw_m4 99 rfl) rfl
theorem q937 : (Jvm.Cond.code ({ cls := "SevenTable$Fault", name := "<init>", desc := "(II)V" } : Jvm.MethodName) prog_5_method_1_code (3 : Nat) (Option.none : Option Jvm.ClassFile.FieldType)) ∈ lw_all := lw_g (lw_at lw_m4 100 rfl) rfl
theorem q938 : (Jvm.Cond.methodLink "SevenTable$Fault" (1 : Nat) ({ cls := "java/lang/Exception", name := "<init>", desc := "()V" } : Jvm.MethodName)) ∈ lw_all := lw_g (lw_at lw_m4 101 rfl) rfl
theorem q942 : (Jvm.Cond.fieldLink "SevenTable$Fault" (7 : Nat) "SevenTable$Fault" "kind" "I") ∈ lw_all := lw_g (lw_at lw_m4 105 rfl) rfl
theorem q944 : (Jvm.Cond.fieldLink "SevenTable$Fault" (13 : Nat) "SevenTable$Fault" "place" "I") ∈ lw_all := lw_g (lw_at lw_m4 107 rfl) rfl
theorem q950 : (Jvm.Cond.laysFinal "SevenTable$Fault" "SevenTable$Fault" "kind" "I") ∈ lw_all := lw_g (lw_at lw_m4 113 rfl) rfl
theorem q951 : (Jvm.Cond.soleField "SevenTable$Fault" "kind") ∈ lw_all := lw_g (lw_at lw_m4 114 rfl) rfl
theorem q952 : (Jvm.Cond.laysFinal "SevenTable$Fault" "SevenTable$Fault" "place" "I") ∈ lw_all := lw_g (lw_at lw_m4 115 rfl) rfl
theorem q953 : (Jvm.Cond.soleField "SevenTable$Fault" "place") ∈ lw_all := lw_g (lw_at lw_m4 116 rfl) rfl
theorem q958 : (Jvm.Cond.lays "SevenTable$Fault" "java/lang/Throwable" "depth" "I") ∈ lw_all := lw_g (lw_at lw_m4 121 rfl) rfl
theorem q961 : (Jvm.Cond.superclass "SevenTable$Fault" "java/lang/Exception") ∈ lw_all := lw_g (lw_at lw_m4 124 rfl) rfl
theorem q1080 : (Jvm.Cond.selects "SevenTable$Fault" ({ cls := "java/lang/Object", name := "equals", desc := "(Ljava/lang/Object;)Z" } : Jvm.MethodName) ({ cls := "java/lang/Object", name := "equals", desc := "(Ljava/lang/Object;)Z" } : Jvm.MethodName)) ∈ lw_all := lw_g (lw_at lw_m5 3 rfl) rfl
theorem q1125 : (Jvm.Cond.selects "SevenTable$Fault" ({ cls := "java/lang/Object", name := "getClass", desc := "()Ljava/lang/Class;" } : Jvm.MethodName) ({ cls := "java/lang/Object", name := "getClass", desc := "()Ljava/lang/Class;" } : Jvm.MethodName)) ∈ lw_all := lw_g (lw_at lw_m5 48 rfl) rfl
theorem q2508 : (Jvm.Cond.castable "SevenTable$Fault" "java/lang/Object") ∈ lw_tbl := lw_at lw_m10 231 rfl
theorem in_X14 : ∀ w ∈ wsX140, w ∈ lw_all := lw_in wsX140 [906, 908, 910, 912, 914, 958, 950, 952] (by decide +kernel) (by decide +kernel)
/-! SevenTable$EveningReader -/
set_option maxRecDepth 100000
def RX15 : String := "SevenTable$EveningReader"
def TX15 : u_T := fun k => match k with
  | 0 => ("SevenTable$Reader", "tape", "[B", true)
  | 1 => ("SevenTable$Reader", "size", "I", true)
  | 2 => ("SevenTable$Reader", "limit", "I", true)
  | 3 => ("SevenTable$Reader", "to", "I", false)
  | 4 => ("SevenTable$Reader", "kind", "I", false)
  | 5 => ("SevenTable$Reader", "from", "I", false)
  | 6 => ("SevenTable$Reader", "number", "I", false)
  | 7 => ("SevenTable$Reader", "sign", "I", false)
  | 8 => ("SevenTable$Reader", "word", "Ljava/lang/String;", false)
  | 9 => ("SevenTable$EveningReader", "g", "LSevenTable$Game;", true)
  | 10 => ("SevenTable$EveningReader", "lines", "I", false)
  | 11 => ("SevenTable$EveningReader", "why", "I", false)
  | _ => ("SevenTable$EveningReader", "wrong", "I", false)
def tyX15 : Nat → FieldType := fun k => match k with
  | 0 => .array .byte
  | 1 => .int
  | 2 => .int
  | 3 => .int
  | 4 => .int
  | 5 => .int
  | 6 => .int
  | 7 => .int
  | 8 => .object "java/lang/String"
  | 9 => .object "SevenTable$Game"
  | 10 => .int
  | 11 => .int
  | _ => .int
abbrev wsX150 : List Cond := u_ws RX15 TX15 13
set_option maxRecDepth 100000 in
theorem nmX15 : ∀ a, a < 13 → ∀ b, b < 13 → a ≠ b → (TX15 a).2.1 ≠ (TX15 b).2.1 := by decide +kernel
set_option maxRecDepth 100000 in
theorem tyX15_ok : ∀ k, k < 13 → parseFieldDescriptor (TX15 k).2.2.1 = some (tyX15 k) := by decide +kernel
abbrev cX15_init : ByteArray := prog_4_method_1_code
def yX15_init : MethodName := ⟨RX15, "<init>", "([BILSevenTable$Game;)V"⟩
def dkwX15_init_0 : List UInt8 := [42, 43, 28, 17, 1, 244, 183, 0, 3, 42, 2, 181, 0, 9, 42, 45, 181, 0, 15, 177]
abbrev dktX15_init_0 : List UInt8 := dkwX15_init_0 ++ []
theorem dksX15_init_0 : cX15_init.data.toList.drop 0 = dktX15_init_0 := by decide +kernel
theorem dX15_init_0 : decode cX15_init 0 = .ok (.aload_n 0, 1) := dk_42 (dk_at dksX15_init_0 0 rfl rfl)
theorem dX15_init_1 : decode cX15_init 1 = .ok (.aload_n 1, 1) := dk_43 (dk_at dksX15_init_0 1 rfl rfl)
theorem dX15_init_2 : decode cX15_init 2 = .ok (.iload_n 2, 1) := dk_28 (dk_at dksX15_init_0 2 rfl rfl)
theorem dX15_init_3 : decode cX15_init 3 = .ok (.sipush 500, 3) := dk_17 1 244 (dk_at dksX15_init_0 3 rfl rfl)
theorem dX15_init_6 : decode cX15_init 6 = .ok (.invokespecial 3, 3) := dk_183 0 3 (dk_at dksX15_init_0 6 rfl rfl)
theorem dX15_init_9 : decode cX15_init 9 = .ok (.aload_n 0, 1) := dk_42 (dk_at dksX15_init_0 9 rfl rfl)
theorem dX15_init_10 : decode cX15_init 10 = .ok (.iconst (-1), 1) := dk_2 (dk_at dksX15_init_0 10 rfl rfl)
theorem dX15_init_11 : decode cX15_init 11 = .ok (.putfield 9, 3) := dk_181 0 9 (dk_at dksX15_init_0 11 rfl rfl)
theorem dX15_init_14 : decode cX15_init 14 = .ok (.aload_n 0, 1) := dk_42 (dk_at dksX15_init_0 14 rfl rfl)
theorem dX15_init_15 : decode cX15_init 15 = .ok (.aload_n 3, 1) := dk_45 (dk_at dksX15_init_0 15 rfl rfl)
theorem dX15_init_16 : decode cX15_init 16 = .ok (.putfield 15, 3) := dk_181 0 15 (dk_at dksX15_init_0 16 rfl rfl)
theorem dX15_init_19 : decode cX15_init 19 = .ok (.return_, 1) := dk_177 (dk_at dksX15_init_0 19 rfl rfl)
abbrev cX15_read : ByteArray := prog_4_method_2_code
def yX15_read : MethodName := ⟨RX15, "read", "()LSevenTable$EveningReader;"⟩
def dkwX15_read_3 : List UInt8 := [180, 0, 15, 180, 0, 34, 182, 0, 56, 182, 0, 60, 132, 1, 1, 167, 255, 176, 42, 176]
abbrev dktX15_read_3 : List UInt8 := dkwX15_read_3 ++ []
def dkwX15_read_2 : List UInt8 := [6, 182, 0, 30, 42, 27, 16, 30, 162, 0, 7, 4, 167, 0, 4, 3, 7, 182, 0, 30, 42, 42, 42]
abbrev dktX15_read_2 : List UInt8 := dkwX15_read_2 ++ dktX15_read_3
def dkwX15_read_1 : List UInt8 := [180, 0, 15, 180, 0, 34, 180, 0, 40, 42, 180, 0, 46, 182, 0, 50, 155, 0, 7, 4, 167, 0, 4, 3]
abbrev dktX15_read_1 : List UInt8 := dkwX15_read_1 ++ dktX15_read_2
def dkwX15_read_0 : List UInt8 := [42, 182, 0, 19, 3, 60, 42, 180, 0, 23, 153, 0, 79, 42, 42, 182, 0, 26, 4, 182, 0, 30, 42, 42]
abbrev dktX15_read_0 : List UInt8 := dkwX15_read_0 ++ dktX15_read_1
theorem dksX15_read_0 : cX15_read.data.toList.drop 0 = dktX15_read_0 := by decide +kernel
theorem dksX15_read_1 : cX15_read.data.toList.drop 24 = dktX15_read_1 := dk_seg dksX15_read_0 24 rfl rfl
theorem dksX15_read_2 : cX15_read.data.toList.drop 48 = dktX15_read_2 := dk_seg dksX15_read_1 24 rfl rfl
theorem dksX15_read_3 : cX15_read.data.toList.drop 71 = dktX15_read_3 := dk_seg dksX15_read_2 23 rfl rfl
theorem dX15_read_0 : decode cX15_read 0 = .ok (.aload_n 0, 1) := dk_42 (dk_at dksX15_read_0 0 rfl rfl)
theorem dX15_read_1 : decode cX15_read 1 = .ok (.invokevirtual 19, 3) := dk_182 0 19 (dk_at dksX15_read_0 1 rfl rfl)
theorem dX15_read_4 : decode cX15_read 4 = .ok (.iconst 0, 1) := dk_3 (dk_at dksX15_read_0 4 rfl rfl)
theorem dX15_read_5 : decode cX15_read 5 = .ok (.istore_n 1, 1) := dk_60 (dk_at dksX15_read_0 5 rfl rfl)
theorem dX15_read_6 : decode cX15_read 6 = .ok (.aload_n 0, 1) := dk_42 (dk_at dksX15_read_0 6 rfl rfl)
theorem dX15_read_7 : decode cX15_read 7 = .ok (.getfield 23, 3) := dk_180 0 23 (dk_at dksX15_read_0 7 rfl rfl)
theorem dX15_read_10 : decode cX15_read 10 = .ok (.ifCond .eq 79, 3) := dk_153 0 79 (dk_at dksX15_read_0 10 rfl rfl)
theorem dX15_read_13 : decode cX15_read 13 = .ok (.aload_n 0, 1) := dk_42 (dk_at dksX15_read_0 13 rfl rfl)
theorem dX15_read_14 : decode cX15_read 14 = .ok (.aload_n 0, 1) := dk_42 (dk_at dksX15_read_0 14 rfl rfl)
theorem dX15_read_15 : decode cX15_read 15 = .ok (.invokevirtual 26, 3) := dk_182 0 26 (dk_at dksX15_read_0 15 rfl rfl)
theorem dX15_read_18 : decode cX15_read 18 = .ok (.iconst 1, 1) := dk_4 (dk_at dksX15_read_0 18 rfl rfl)
theorem dX15_read_19 : decode cX15_read 19 = .ok (.invokevirtual 30, 3) := dk_182 0 30 (dk_at dksX15_read_0 19 rfl rfl)
theorem dX15_read_22 : decode cX15_read 22 = .ok (.aload_n 0, 1) := dk_42 (dk_at dksX15_read_0 22 rfl rfl)
theorem dX15_read_23 : decode cX15_read 23 = .ok (.aload_n 0, 1) := dk_42 (dk_at dksX15_read_0 23 rfl rfl)
theorem dX15_read_24 : decode cX15_read 24 = .ok (.getfield 15, 3) := dk_180 0 15 (dk_at dksX15_read_1 0 rfl rfl)
theorem dX15_read_27 : decode cX15_read 27 = .ok (.getfield 34, 3) := dk_180 0 34 (dk_at dksX15_read_1 3 rfl rfl)
theorem dX15_read_30 : decode cX15_read 30 = .ok (.getfield 40, 3) := dk_180 0 40 (dk_at dksX15_read_1 6 rfl rfl)
theorem dX15_read_33 : decode cX15_read 33 = .ok (.aload_n 0, 1) := dk_42 (dk_at dksX15_read_1 9 rfl rfl)
theorem dX15_read_34 : decode cX15_read 34 = .ok (.getfield 46, 3) := dk_180 0 46 (dk_at dksX15_read_1 10 rfl rfl)
theorem dX15_read_37 : decode cX15_read 37 = .ok (.invokevirtual 50, 3) := dk_182 0 50 (dk_at dksX15_read_1 13 rfl rfl)
theorem dX15_read_40 : decode cX15_read 40 = .ok (.ifCond .lt 7, 3) := dk_155 0 7 (dk_at dksX15_read_1 16 rfl rfl)
theorem dX15_read_43 : decode cX15_read 43 = .ok (.iconst 1, 1) := dk_4 (dk_at dksX15_read_1 19 rfl rfl)
theorem dX15_read_44 : decode cX15_read 44 = .ok (.goto 4, 3) := dk_167 0 4 (dk_at dksX15_read_1 20 rfl rfl)
theorem dX15_read_47 : decode cX15_read 47 = .ok (.iconst 0, 1) := dk_3 (dk_at dksX15_read_1 23 rfl rfl)
theorem dX15_read_48 : decode cX15_read 48 = .ok (.iconst 3, 1) := dk_6 (dk_at dksX15_read_2 0 rfl rfl)
theorem dX15_read_49 : decode cX15_read 49 = .ok (.invokevirtual 30, 3) := dk_182 0 30 (dk_at dksX15_read_2 1 rfl rfl)
theorem dX15_read_52 : decode cX15_read 52 = .ok (.aload_n 0, 1) := dk_42 (dk_at dksX15_read_2 4 rfl rfl)
theorem dX15_read_53 : decode cX15_read 53 = .ok (.iload_n 1, 1) := dk_27 (dk_at dksX15_read_2 5 rfl rfl)
theorem dX15_read_54 : decode cX15_read 54 = .ok (.bipush 30, 2) := dk_16 30 (dk_at dksX15_read_2 6 rfl rfl)
theorem dX15_read_56 : decode cX15_read 56 = .ok (.if_icmp .ge 7, 3) := dk_162 0 7 (dk_at dksX15_read_2 8 rfl rfl)
theorem dX15_read_59 : decode cX15_read 59 = .ok (.iconst 1, 1) := dk_4 (dk_at dksX15_read_2 11 rfl rfl)
theorem dX15_read_60 : decode cX15_read 60 = .ok (.goto 4, 3) := dk_167 0 4 (dk_at dksX15_read_2 12 rfl rfl)
theorem dX15_read_63 : decode cX15_read 63 = .ok (.iconst 0, 1) := dk_3 (dk_at dksX15_read_2 15 rfl rfl)
theorem dX15_read_64 : decode cX15_read 64 = .ok (.iconst 4, 1) := dk_7 (dk_at dksX15_read_2 16 rfl rfl)
theorem dX15_read_65 : decode cX15_read 65 = .ok (.invokevirtual 30, 3) := dk_182 0 30 (dk_at dksX15_read_2 17 rfl rfl)
theorem dX15_read_68 : decode cX15_read 68 = .ok (.aload_n 0, 1) := dk_42 (dk_at dksX15_read_2 20 rfl rfl)
theorem dX15_read_69 : decode cX15_read 69 = .ok (.aload_n 0, 1) := dk_42 (dk_at dksX15_read_2 21 rfl rfl)
theorem dX15_read_70 : decode cX15_read 70 = .ok (.aload_n 0, 1) := dk_42 (dk_at dksX15_read_2 22 rfl rfl)
theorem dX15_read_71 : decode cX15_read 71 = .ok (.getfield 15, 3) := dk_180 0 15 (dk_at dksX15_read_3 0 rfl rfl)
theorem dX15_read_74 : decode cX15_read 74 = .ok (.getfield 34, 3) := dk_180 0 34 (dk_at dksX15_read_3 3 rfl rfl)
theorem dX15_read_77 : decode cX15_read 77 = .ok (.invokevirtual 56, 3) := dk_182 0 56 (dk_at dksX15_read_3 6 rfl rfl)
theorem dX15_read_80 : decode cX15_read 80 = .ok (.invokevirtual 60, 3) := dk_182 0 60 (dk_at dksX15_read_3 9 rfl rfl)
theorem dX15_read_83 : decode cX15_read 83 = .ok (.iinc 1 1, 3) := dk_132 1 1 (dk_at dksX15_read_3 12 rfl rfl)
theorem dX15_read_86 : decode cX15_read 86 = .ok (.goto (-80), 3) := dk_167 255 176 (dk_at dksX15_read_3 15 rfl rfl)
theorem dX15_read_89 : decode cX15_read 89 = .ok (.aload_n 0, 1) := dk_42 (dk_at dksX15_read_3 18 rfl rfl)
theorem dX15_read_90 : decode cX15_read 90 = .ok (.areturn, 1) := dk_176 (dk_at dksX15_read_3 19 rfl rfl)
abbrev cX15_line : ByteArray := prog_4_method_3_code
def yX15_line : MethodName := ⟨RX15, "line", "(I)V"⟩
def dkwX15_line_5 : List UInt8 := [182, 0, 87, 177]
abbrev dktX15_line_5 : List UInt8 := dkwX15_line_5 ++ []
def dkwX15_line_4 : List UInt8 := [167, 0, 4, 3, 54, 5, 42, 182, 0, 81, 42, 180, 0, 84, 154, 0, 12, 42, 27, 28, 29, 21, 5]
abbrev dktX15_line_4 : List UInt8 := dkwX15_line_4 ++ dktX15_line_5
def dkwX15_line_3 : List UInt8 := [167, 0, 4, 3, 4, 182, 0, 30, 42, 182, 0, 19, 21, 4, 153, 0, 12, 42, 4, 7, 182, 0, 73]
abbrev dktX15_line_3 : List UInt8 := dkwX15_line_3 ++ dktX15_line_4
def dkwX15_line_2 : List UInt8 := [18, 77, 182, 0, 66, 54, 4, 42, 21, 4, 154, 0, 12, 42, 18, 79, 182, 0, 66, 153, 0, 7, 4]
abbrev dktX15_line_2 : List UInt8 := dkwX15_line_2 ++ dktX15_line_3
def dkwX15_line_1 : List UInt8 := [182, 0, 56, 61, 42, 3, 42, 180, 0, 15, 180, 0, 34, 180, 0, 70, 4, 100, 182, 0, 73, 62, 42]
abbrev dktX15_line_1 : List UInt8 := dkwX15_line_1 ++ dktX15_line_2
def dkwX15_line_0 : List UInt8 := [42, 42, 18, 64, 182, 0, 66, 4, 182, 0, 30, 42, 182, 0, 19, 42, 42, 180, 0, 15, 180, 0, 34]
abbrev dktX15_line_0 : List UInt8 := dkwX15_line_0 ++ dktX15_line_1
theorem dksX15_line_0 : cX15_line.data.toList.drop 0 = dktX15_line_0 := by decide +kernel
theorem dksX15_line_1 : cX15_line.data.toList.drop 23 = dktX15_line_1 := dk_seg dksX15_line_0 23 rfl rfl
theorem dksX15_line_2 : cX15_line.data.toList.drop 46 = dktX15_line_2 := dk_seg dksX15_line_1 23 rfl rfl
theorem dksX15_line_3 : cX15_line.data.toList.drop 69 = dktX15_line_3 := dk_seg dksX15_line_2 23 rfl rfl
theorem dksX15_line_4 : cX15_line.data.toList.drop 92 = dktX15_line_4 := dk_seg dksX15_line_3 23 rfl rfl
theorem dksX15_line_5 : cX15_line.data.toList.drop 115 = dktX15_line_5 := dk_seg dksX15_line_4 23 rfl rfl
theorem dX15_line_0 : decode cX15_line 0 = .ok (.aload_n 0, 1) := dk_42 (dk_at dksX15_line_0 0 rfl rfl)
theorem dX15_line_1 : decode cX15_line 1 = .ok (.aload_n 0, 1) := dk_42 (dk_at dksX15_line_0 1 rfl rfl)
theorem dX15_line_2 : decode cX15_line 2 = .ok (.ldc 64, 2) := dk_18 64 (dk_at dksX15_line_0 2 rfl rfl)
theorem dX15_line_4 : decode cX15_line 4 = .ok (.invokevirtual 66, 3) := dk_182 0 66 (dk_at dksX15_line_0 4 rfl rfl)
theorem dX15_line_7 : decode cX15_line 7 = .ok (.iconst 1, 1) := dk_4 (dk_at dksX15_line_0 7 rfl rfl)
theorem dX15_line_8 : decode cX15_line 8 = .ok (.invokevirtual 30, 3) := dk_182 0 30 (dk_at dksX15_line_0 8 rfl rfl)
theorem dX15_line_11 : decode cX15_line 11 = .ok (.aload_n 0, 1) := dk_42 (dk_at dksX15_line_0 11 rfl rfl)
theorem dX15_line_12 : decode cX15_line 12 = .ok (.invokevirtual 19, 3) := dk_182 0 19 (dk_at dksX15_line_0 12 rfl rfl)
theorem dX15_line_15 : decode cX15_line 15 = .ok (.aload_n 0, 1) := dk_42 (dk_at dksX15_line_0 15 rfl rfl)
theorem dX15_line_16 : decode cX15_line 16 = .ok (.aload_n 0, 1) := dk_42 (dk_at dksX15_line_0 16 rfl rfl)
theorem dX15_line_17 : decode cX15_line 17 = .ok (.getfield 15, 3) := dk_180 0 15 (dk_at dksX15_line_0 17 rfl rfl)
theorem dX15_line_20 : decode cX15_line 20 = .ok (.getfield 34, 3) := dk_180 0 34 (dk_at dksX15_line_0 20 rfl rfl)
theorem dX15_line_23 : decode cX15_line 23 = .ok (.invokevirtual 56, 3) := dk_182 0 56 (dk_at dksX15_line_1 0 rfl rfl)
theorem dX15_line_26 : decode cX15_line 26 = .ok (.istore_n 2, 1) := dk_61 (dk_at dksX15_line_1 3 rfl rfl)
theorem dX15_line_27 : decode cX15_line 27 = .ok (.aload_n 0, 1) := dk_42 (dk_at dksX15_line_1 4 rfl rfl)
theorem dX15_line_28 : decode cX15_line 28 = .ok (.iconst 0, 1) := dk_3 (dk_at dksX15_line_1 5 rfl rfl)
theorem dX15_line_29 : decode cX15_line 29 = .ok (.aload_n 0, 1) := dk_42 (dk_at dksX15_line_1 6 rfl rfl)
theorem dX15_line_30 : decode cX15_line 30 = .ok (.getfield 15, 3) := dk_180 0 15 (dk_at dksX15_line_1 7 rfl rfl)
theorem dX15_line_33 : decode cX15_line 33 = .ok (.getfield 34, 3) := dk_180 0 34 (dk_at dksX15_line_1 10 rfl rfl)
theorem dX15_line_36 : decode cX15_line 36 = .ok (.getfield 70, 3) := dk_180 0 70 (dk_at dksX15_line_1 13 rfl rfl)
theorem dX15_line_39 : decode cX15_line 39 = .ok (.iconst 1, 1) := dk_4 (dk_at dksX15_line_1 16 rfl rfl)
theorem dX15_line_40 : decode cX15_line 40 = .ok (.isub, 1) := dk_100 (dk_at dksX15_line_1 17 rfl rfl)
theorem dX15_line_41 : decode cX15_line 41 = .ok (.invokevirtual 73, 3) := dk_182 0 73 (dk_at dksX15_line_1 18 rfl rfl)
theorem dX15_line_44 : decode cX15_line 44 = .ok (.istore_n 3, 1) := dk_62 (dk_at dksX15_line_1 21 rfl rfl)
theorem dX15_line_45 : decode cX15_line 45 = .ok (.aload_n 0, 1) := dk_42 (dk_at dksX15_line_1 22 rfl rfl)
theorem dX15_line_46 : decode cX15_line 46 = .ok (.ldc 77, 2) := dk_18 77 (dk_at dksX15_line_2 0 rfl rfl)
theorem dX15_line_48 : decode cX15_line 48 = .ok (.invokevirtual 66, 3) := dk_182 0 66 (dk_at dksX15_line_2 2 rfl rfl)
theorem dX15_line_51 : decode cX15_line 51 = .ok (.istore 4, 2) := dk_54 4 (dk_at dksX15_line_2 5 rfl rfl)
theorem dX15_line_53 : decode cX15_line 53 = .ok (.aload_n 0, 1) := dk_42 (dk_at dksX15_line_2 7 rfl rfl)
theorem dX15_line_54 : decode cX15_line 54 = .ok (.iload 4, 2) := dk_21 4 (dk_at dksX15_line_2 8 rfl rfl)
theorem dX15_line_56 : decode cX15_line 56 = .ok (.ifCond .ne 12, 3) := dk_154 0 12 (dk_at dksX15_line_2 10 rfl rfl)
theorem dX15_line_59 : decode cX15_line 59 = .ok (.aload_n 0, 1) := dk_42 (dk_at dksX15_line_2 13 rfl rfl)
theorem dX15_line_60 : decode cX15_line 60 = .ok (.ldc 79, 2) := dk_18 79 (dk_at dksX15_line_2 14 rfl rfl)
theorem dX15_line_62 : decode cX15_line 62 = .ok (.invokevirtual 66, 3) := dk_182 0 66 (dk_at dksX15_line_2 16 rfl rfl)
theorem dX15_line_65 : decode cX15_line 65 = .ok (.ifCond .eq 7, 3) := dk_153 0 7 (dk_at dksX15_line_2 19 rfl rfl)
theorem dX15_line_68 : decode cX15_line 68 = .ok (.iconst 1, 1) := dk_4 (dk_at dksX15_line_2 22 rfl rfl)
theorem dX15_line_69 : decode cX15_line 69 = .ok (.goto 4, 3) := dk_167 0 4 (dk_at dksX15_line_3 0 rfl rfl)
theorem dX15_line_72 : decode cX15_line 72 = .ok (.iconst 0, 1) := dk_3 (dk_at dksX15_line_3 3 rfl rfl)
theorem dX15_line_73 : decode cX15_line 73 = .ok (.iconst 1, 1) := dk_4 (dk_at dksX15_line_3 4 rfl rfl)
theorem dX15_line_74 : decode cX15_line 74 = .ok (.invokevirtual 30, 3) := dk_182 0 30 (dk_at dksX15_line_3 5 rfl rfl)
theorem dX15_line_77 : decode cX15_line 77 = .ok (.aload_n 0, 1) := dk_42 (dk_at dksX15_line_3 8 rfl rfl)
theorem dX15_line_78 : decode cX15_line 78 = .ok (.invokevirtual 19, 3) := dk_182 0 19 (dk_at dksX15_line_3 9 rfl rfl)
theorem dX15_line_81 : decode cX15_line 81 = .ok (.iload 4, 2) := dk_21 4 (dk_at dksX15_line_3 12 rfl rfl)
theorem dX15_line_83 : decode cX15_line 83 = .ok (.ifCond .eq 12, 3) := dk_153 0 12 (dk_at dksX15_line_3 14 rfl rfl)
theorem dX15_line_86 : decode cX15_line 86 = .ok (.aload_n 0, 1) := dk_42 (dk_at dksX15_line_3 17 rfl rfl)
theorem dX15_line_87 : decode cX15_line 87 = .ok (.iconst 1, 1) := dk_4 (dk_at dksX15_line_3 18 rfl rfl)
theorem dX15_line_88 : decode cX15_line 88 = .ok (.iconst 4, 1) := dk_7 (dk_at dksX15_line_3 19 rfl rfl)
theorem dX15_line_89 : decode cX15_line 89 = .ok (.invokevirtual 73, 3) := dk_182 0 73 (dk_at dksX15_line_3 20 rfl rfl)
theorem dX15_line_92 : decode cX15_line 92 = .ok (.goto 4, 3) := dk_167 0 4 (dk_at dksX15_line_4 0 rfl rfl)
theorem dX15_line_95 : decode cX15_line 95 = .ok (.iconst 0, 1) := dk_3 (dk_at dksX15_line_4 3 rfl rfl)
theorem dX15_line_96 : decode cX15_line 96 = .ok (.istore 5, 2) := dk_54 5 (dk_at dksX15_line_4 4 rfl rfl)
theorem dX15_line_98 : decode cX15_line 98 = .ok (.aload_n 0, 1) := dk_42 (dk_at dksX15_line_4 6 rfl rfl)
theorem dX15_line_99 : decode cX15_line 99 = .ok (.invokevirtual 81, 3) := dk_182 0 81 (dk_at dksX15_line_4 7 rfl rfl)
theorem dX15_line_102 : decode cX15_line 102 = .ok (.aload_n 0, 1) := dk_42 (dk_at dksX15_line_4 10 rfl rfl)
theorem dX15_line_103 : decode cX15_line 103 = .ok (.getfield 84, 3) := dk_180 0 84 (dk_at dksX15_line_4 11 rfl rfl)
theorem dX15_line_106 : decode cX15_line 106 = .ok (.ifCond .ne 12, 3) := dk_154 0 12 (dk_at dksX15_line_4 14 rfl rfl)
theorem dX15_line_109 : decode cX15_line 109 = .ok (.aload_n 0, 1) := dk_42 (dk_at dksX15_line_4 17 rfl rfl)
theorem dX15_line_110 : decode cX15_line 110 = .ok (.iload_n 1, 1) := dk_27 (dk_at dksX15_line_4 18 rfl rfl)
theorem dX15_line_111 : decode cX15_line 111 = .ok (.iload_n 2, 1) := dk_28 (dk_at dksX15_line_4 19 rfl rfl)
theorem dX15_line_112 : decode cX15_line 112 = .ok (.iload_n 3, 1) := dk_29 (dk_at dksX15_line_4 20 rfl rfl)
theorem dX15_line_113 : decode cX15_line 113 = .ok (.iload 5, 2) := dk_21 5 (dk_at dksX15_line_4 21 rfl rfl)
theorem dX15_line_115 : decode cX15_line 115 = .ok (.invokevirtual 87, 3) := dk_182 0 87 (dk_at dksX15_line_5 0 rfl rfl)
theorem dX15_line_118 : decode cX15_line 118 = .ok (.return_, 1) := dk_177 (dk_at dksX15_line_5 3 rfl rfl)
abbrev cX15_judge : ByteArray := prog_4_method_4_code
def yX15_judge : MethodName := ⟨RX15, "judge", "(IIII)V"⟩
def dkwX15_judge_3 : List UInt8 := [42, 89, 180, 0, 99, 4, 96, 181, 0, 99, 177]
abbrev dktX15_judge_3 : List UInt8 := dkwX15_judge_3 ++ []
def dkwX15_judge_2 : List UInt8 := [153, 0, 12, 42, 42, 180, 0, 99, 181, 0, 9, 177, 42, 180, 0, 15, 27, 28, 29, 3, 182, 0, 102, 87]
abbrev dktX15_judge_2 : List UInt8 := dkwX15_judge_2 ++ dktX15_judge_3
def dkwX15_judge_1 : List UInt8 := [180, 0, 15, 180, 0, 95, 28, 50, 29, 46, 21, 4, 159, 0, 8, 42, 8, 181, 0, 84, 42, 180, 0, 84]
abbrev dktX15_judge_1 : List UInt8 := dkwX15_judge_1 ++ dktX15_judge_2
def dkwX15_judge_0 : List UInt8 := [42, 42, 180, 0, 15, 27, 28, 29, 182, 0, 91, 181, 0, 84, 42, 180, 0, 84, 154, 0, 24, 42]
abbrev dktX15_judge_0 : List UInt8 := dkwX15_judge_0 ++ dktX15_judge_1
theorem dksX15_judge_0 : cX15_judge.data.toList.drop 0 = dktX15_judge_0 := by decide +kernel
theorem dksX15_judge_1 : cX15_judge.data.toList.drop 22 = dktX15_judge_1 := dk_seg dksX15_judge_0 22 rfl rfl
theorem dksX15_judge_2 : cX15_judge.data.toList.drop 46 = dktX15_judge_2 := dk_seg dksX15_judge_1 24 rfl rfl
theorem dksX15_judge_3 : cX15_judge.data.toList.drop 70 = dktX15_judge_3 := dk_seg dksX15_judge_2 24 rfl rfl
theorem dX15_judge_0 : decode cX15_judge 0 = .ok (.aload_n 0, 1) := dk_42 (dk_at dksX15_judge_0 0 rfl rfl)
theorem dX15_judge_1 : decode cX15_judge 1 = .ok (.aload_n 0, 1) := dk_42 (dk_at dksX15_judge_0 1 rfl rfl)
theorem dX15_judge_2 : decode cX15_judge 2 = .ok (.getfield 15, 3) := dk_180 0 15 (dk_at dksX15_judge_0 2 rfl rfl)
theorem dX15_judge_5 : decode cX15_judge 5 = .ok (.iload_n 1, 1) := dk_27 (dk_at dksX15_judge_0 5 rfl rfl)
theorem dX15_judge_6 : decode cX15_judge 6 = .ok (.iload_n 2, 1) := dk_28 (dk_at dksX15_judge_0 6 rfl rfl)
theorem dX15_judge_7 : decode cX15_judge 7 = .ok (.iload_n 3, 1) := dk_29 (dk_at dksX15_judge_0 7 rfl rfl)
theorem dX15_judge_8 : decode cX15_judge 8 = .ok (.invokevirtual 91, 3) := dk_182 0 91 (dk_at dksX15_judge_0 8 rfl rfl)
theorem dX15_judge_11 : decode cX15_judge 11 = .ok (.putfield 84, 3) := dk_181 0 84 (dk_at dksX15_judge_0 11 rfl rfl)
theorem dX15_judge_14 : decode cX15_judge 14 = .ok (.aload_n 0, 1) := dk_42 (dk_at dksX15_judge_0 14 rfl rfl)
theorem dX15_judge_15 : decode cX15_judge 15 = .ok (.getfield 84, 3) := dk_180 0 84 (dk_at dksX15_judge_0 15 rfl rfl)
theorem dX15_judge_18 : decode cX15_judge 18 = .ok (.ifCond .ne 24, 3) := dk_154 0 24 (dk_at dksX15_judge_0 18 rfl rfl)
theorem dX15_judge_21 : decode cX15_judge 21 = .ok (.aload_n 0, 1) := dk_42 (dk_at dksX15_judge_0 21 rfl rfl)
theorem dX15_judge_22 : decode cX15_judge 22 = .ok (.getfield 15, 3) := dk_180 0 15 (dk_at dksX15_judge_1 0 rfl rfl)
theorem dX15_judge_25 : decode cX15_judge 25 = .ok (.getfield 95, 3) := dk_180 0 95 (dk_at dksX15_judge_1 3 rfl rfl)
theorem dX15_judge_28 : decode cX15_judge 28 = .ok (.iload_n 2, 1) := dk_28 (dk_at dksX15_judge_1 6 rfl rfl)
theorem dX15_judge_29 : decode cX15_judge 29 = .ok (.aaload, 1) := dk_50 (dk_at dksX15_judge_1 7 rfl rfl)
theorem dX15_judge_30 : decode cX15_judge 30 = .ok (.iload_n 3, 1) := dk_29 (dk_at dksX15_judge_1 8 rfl rfl)
theorem dX15_judge_31 : decode cX15_judge 31 = .ok (.iaload, 1) := dk_46 (dk_at dksX15_judge_1 9 rfl rfl)
theorem dX15_judge_32 : decode cX15_judge 32 = .ok (.iload 4, 2) := dk_21 4 (dk_at dksX15_judge_1 10 rfl rfl)
theorem dX15_judge_34 : decode cX15_judge 34 = .ok (.if_icmp .eq 8, 3) := dk_159 0 8 (dk_at dksX15_judge_1 12 rfl rfl)
theorem dX15_judge_37 : decode cX15_judge 37 = .ok (.aload_n 0, 1) := dk_42 (dk_at dksX15_judge_1 15 rfl rfl)
theorem dX15_judge_38 : decode cX15_judge 38 = .ok (.iconst 5, 1) := dk_8 (dk_at dksX15_judge_1 16 rfl rfl)
theorem dX15_judge_39 : decode cX15_judge 39 = .ok (.putfield 84, 3) := dk_181 0 84 (dk_at dksX15_judge_1 17 rfl rfl)
theorem dX15_judge_42 : decode cX15_judge 42 = .ok (.aload_n 0, 1) := dk_42 (dk_at dksX15_judge_1 20 rfl rfl)
theorem dX15_judge_43 : decode cX15_judge 43 = .ok (.getfield 84, 3) := dk_180 0 84 (dk_at dksX15_judge_1 21 rfl rfl)
theorem dX15_judge_46 : decode cX15_judge 46 = .ok (.ifCond .eq 12, 3) := dk_153 0 12 (dk_at dksX15_judge_2 0 rfl rfl)
theorem dX15_judge_49 : decode cX15_judge 49 = .ok (.aload_n 0, 1) := dk_42 (dk_at dksX15_judge_2 3 rfl rfl)
theorem dX15_judge_50 : decode cX15_judge 50 = .ok (.aload_n 0, 1) := dk_42 (dk_at dksX15_judge_2 4 rfl rfl)
theorem dX15_judge_51 : decode cX15_judge 51 = .ok (.getfield 99, 3) := dk_180 0 99 (dk_at dksX15_judge_2 5 rfl rfl)
theorem dX15_judge_54 : decode cX15_judge 54 = .ok (.putfield 9, 3) := dk_181 0 9 (dk_at dksX15_judge_2 8 rfl rfl)
theorem dX15_judge_57 : decode cX15_judge 57 = .ok (.return_, 1) := dk_177 (dk_at dksX15_judge_2 11 rfl rfl)
theorem dX15_judge_58 : decode cX15_judge 58 = .ok (.aload_n 0, 1) := dk_42 (dk_at dksX15_judge_2 12 rfl rfl)
theorem dX15_judge_59 : decode cX15_judge 59 = .ok (.getfield 15, 3) := dk_180 0 15 (dk_at dksX15_judge_2 13 rfl rfl)
theorem dX15_judge_62 : decode cX15_judge 62 = .ok (.iload_n 1, 1) := dk_27 (dk_at dksX15_judge_2 16 rfl rfl)
theorem dX15_judge_63 : decode cX15_judge 63 = .ok (.iload_n 2, 1) := dk_28 (dk_at dksX15_judge_2 17 rfl rfl)
theorem dX15_judge_64 : decode cX15_judge 64 = .ok (.iload_n 3, 1) := dk_29 (dk_at dksX15_judge_2 18 rfl rfl)
theorem dX15_judge_65 : decode cX15_judge 65 = .ok (.iconst 0, 1) := dk_3 (dk_at dksX15_judge_2 19 rfl rfl)
theorem dX15_judge_66 : decode cX15_judge 66 = .ok (.invokevirtual 102, 3) := dk_182 0 102 (dk_at dksX15_judge_2 20 rfl rfl)
theorem dX15_judge_69 : decode cX15_judge 69 = .ok (.pop, 1) := dk_87 (dk_at dksX15_judge_2 23 rfl rfl)
theorem dX15_judge_70 : decode cX15_judge 70 = .ok (.aload_n 0, 1) := dk_42 (dk_at dksX15_judge_3 0 rfl rfl)
theorem dX15_judge_71 : decode cX15_judge 71 = .ok (.dup, 1) := dk_89 (dk_at dksX15_judge_3 1 rfl rfl)
theorem dX15_judge_72 : decode cX15_judge 72 = .ok (.getfield 99, 3) := dk_180 0 99 (dk_at dksX15_judge_3 2 rfl rfl)
theorem dX15_judge_75 : decode cX15_judge 75 = .ok (.iconst 1, 1) := dk_4 (dk_at dksX15_judge_3 5 rfl rfl)
theorem dX15_judge_76 : decode cX15_judge 76 = .ok (.iadd, 1) := dk_96 (dk_at dksX15_judge_3 6 rfl rfl)
theorem dX15_judge_77 : decode cX15_judge 77 = .ok (.putfield 99, 3) := dk_181 0 99 (dk_at dksX15_judge_3 7 rfl rfl)
theorem dX15_judge_80 : decode cX15_judge 80 = .ok (.return_, 1) := dk_177 (dk_at dksX15_judge_3 10 rfl rfl)
theorem q150 : (Jvm.Cond.initialized "SevenTable$EveningReader") ∈ lw_all := lw_g (lw_at lw_m1 33 rfl) rfl
theorem q201 : (Jvm.Cond.fieldLinkNest "SevenTable$EveningReader" (70 : Nat) "SevenTable$Table" "kinds" "I" "SevenTable") ∈ lw_tbl := lw_at lw_m1 84 rfl
theorem q220 : (Jvm.Cond.fieldLinkNest "SevenTable$EveningReader" (40 : Nat) "SevenTable$Table" "names" "Ljava/util/ArrayList;" "SevenTable") ∈ lw_tbl := lw_at lw_m1 103 rfl
theorem q262 : (Jvm.Cond.fieldLinkNest "SevenTable$EveningReader" (34 : Nat) "SevenTable$Game" "t" "LSevenTable$Table;" "SevenTable") ∈ lw_tbl := lw_at lw_m1 145 rfl
theorem q270 : (Jvm.Cond.fieldLinkNest "SevenTable$EveningReader" (95 : Nat) "SevenTable$Game" "hand" "[[I" "SevenTable") ∈ lw_tbl := lw_at lw_m1 153 rfl
theorem q624 : (Jvm.Cond.fieldLink "SevenTable$EveningReader" (23 : Nat) "SevenTable$EveningReader" "kind" "I") ∈ lw_all := lw_g (lw_at lw_m3 27 rfl) rfl
theorem q625 : (Jvm.Cond.sameField "SevenTable$EveningReader" "SevenTable$Reader" "kind" "I") ∈ lw_all := lw_g (lw_at lw_m3 28 rfl) rfl
theorem q635 : (Jvm.Cond.fieldLink "SevenTable$EveningReader" (46 : Nat) "SevenTable$EveningReader" "word" "Ljava/lang/String;") ∈ lw_all := lw_g (lw_at lw_m3 38 rfl) rfl
theorem q636 : (Jvm.Cond.sameField "SevenTable$EveningReader" "SevenTable$Reader" "word" "Ljava/lang/String;") ∈ lw_all := lw_g (lw_at lw_m3 39 rfl) rfl
theorem q971 : (Jvm.Cond.selects "SevenTable$EveningReader" ({ cls := "SevenTable$Reader", name := "hold", desc := "(II)I" } : Jvm.MethodName) ({ cls := "SevenTable$Reader", name := "hold", desc := "(II)I" } : Jvm.MethodName)) ∈ lw_all := lw_g (lw_at lw_m4 134 rfl) rfl
theorem q1079 : (Jvm.Cond.selects "SevenTable$EveningReader" ({ cls := "java/lang/Object", name := "equals", desc := "(Ljava/lang/Object;)Z" } : Jvm.MethodName) ({ cls := "java/lang/Object", name := "equals", desc := "(Ljava/lang/Object;)Z" } : Jvm.MethodName)) ∈ lw_all := lw_g (lw_at lw_m5 2 rfl) rfl
theorem q1124 : (Jvm.Cond.selects "SevenTable$EveningReader" ({ cls := "java/lang/Object", name := "getClass", desc := "()Ljava/lang/Class;" } : Jvm.MethodName) ({ cls := "java/lang/Object", name := "getClass", desc := "()Ljava/lang/Class;" } : Jvm.MethodName)) ∈ lw_all := lw_g (lw_at lw_m5 47 rfl) rfl
theorem q1505 : (Jvm.Cond.instantiable "SevenTable$EveningReader" (13 : Nat)) ∈ lw_all := lw_g (lw_at lw_m6 188 rfl) rfl
theorem q1507 : (Jvm.Cond.instanceMethod ({ cls := "SevenTable$EveningReader", name := "<init>", desc := "([BILSevenTable$Game;)V" } : Jvm.MethodName)) ∈ lw_all := lw_g (lw_at lw_m6 190 rfl) rfl
theorem q1508 : (Jvm.Cond.code ({ cls := "SevenTable$EveningReader", name := "<init>", desc := "([BILSevenTable$Game;)V" } : Jvm.MethodName) prog_4_method_1_code (4 : Nat) (Option.none : Option Jvm.ClassFile.FieldType)) ∈ lw_all := lw_g (lw_at lw_m6 191 rfl) rfl
theorem q1509 : (Jvm.Cond.methodLink "SevenTable$EveningReader" (3 : Nat) ({ cls := "SevenTable$Reader", name := "<init>", desc := "([BII)V" } : Jvm.MethodName)) ∈ lw_all := lw_g (lw_at lw_m6 192 rfl) rfl
theorem q1510 : (Jvm.Cond.fieldLink "SevenTable$EveningReader" (15 : Nat) "SevenTable$EveningReader" "g" "LSevenTable$Game;") ∈ lw_all := lw_g (lw_at lw_m6 193 rfl) rfl
theorem q1511 : (Jvm.Cond.fieldLink "SevenTable$EveningReader" (99 : Nat) "SevenTable$EveningReader" "lines" "I") ∈ lw_all := lw_g (lw_at lw_m6 194 rfl) rfl
theorem q1513 : (Jvm.Cond.fieldLink "SevenTable$EveningReader" (84 : Nat) "SevenTable$EveningReader" "why" "I") ∈ lw_all := lw_g (lw_at lw_m6 196 rfl) rfl
theorem q1515 : (Jvm.Cond.fieldLink "SevenTable$EveningReader" (9 : Nat) "SevenTable$EveningReader" "wrong" "I") ∈ lw_all := lw_g (lw_at lw_m6 198 rfl) rfl
theorem q1517 : (Jvm.Cond.laysFinal "SevenTable$EveningReader" "SevenTable$EveningReader" "g" "LSevenTable$Game;") ∈ lw_all := lw_g (lw_at lw_m6 200 rfl) rfl
theorem q1518 : (Jvm.Cond.soleField "SevenTable$EveningReader" "g") ∈ lw_all := lw_g (lw_at lw_m6 201 rfl) rfl
theorem q1519 : (Jvm.Cond.lays "SevenTable$EveningReader" "SevenTable$EveningReader" "lines" "I") ∈ lw_all := lw_g (lw_at lw_m6 202 rfl) rfl
theorem q1520 : (Jvm.Cond.soleField "SevenTable$EveningReader" "lines") ∈ lw_all := lw_g (lw_at lw_m6 203 rfl) rfl
theorem q1521 : (Jvm.Cond.lays "SevenTable$EveningReader" "SevenTable$EveningReader" "why" "I") ∈ lw_all := lw_g (lw_at lw_m6 204 rfl) rfl
theorem q1522 : (Jvm.Cond.soleField "SevenTable$EveningReader" "why") ∈ lw_all := lw_g (lw_at lw_m6 205 rfl) rfl
theorem q1523 : (Jvm.Cond.lays "SevenTable$EveningReader" "SevenTable$EveningReader" "wrong" "I") ∈ lw_all := lw_g (lw_at lw_m6 206 rfl) rfl
theorem q1524 : (Jvm.Cond.soleField "SevenTable$EveningReader" "wrong") ∈ lw_all := lw_g (lw_at lw_m6 207 rfl) rfl
theorem q1525 : (Jvm.Cond.laysFinal "SevenTable$EveningReader" "SevenTable$Reader" "tape" "[B") ∈ lw_all := lw_g (lw_at lw_m6 208 rfl) rfl
theorem q1526 : (Jvm.Cond.laysFinal "SevenTable$EveningReader" "SevenTable$Reader" "size" "I") ∈ lw_all := lw_g (lw_at lw_m6 209 rfl) rfl
theorem q1527 : (Jvm.Cond.laysFinal "SevenTable$EveningReader" "SevenTable$Reader" "limit" "I") ∈ lw_all := lw_g (lw_at lw_m6 210 rfl) rfl
theorem q1528 : (Jvm.Cond.lays "SevenTable$EveningReader" "SevenTable$Reader" "to" "I") ∈ lw_all := lw_g (lw_at lw_m6 211 rfl) rfl
theorem q1529 : (Jvm.Cond.lays "SevenTable$EveningReader" "SevenTable$Reader" "kind" "I") ∈ lw_all := lw_g (lw_at lw_m6 212 rfl) rfl
theorem q1530 : (Jvm.Cond.lays "SevenTable$EveningReader" "SevenTable$Reader" "from" "I") ∈ lw_all := lw_g (lw_at lw_m6 213 rfl) rfl
theorem q1531 : (Jvm.Cond.lays "SevenTable$EveningReader" "SevenTable$Reader" "number" "I") ∈ lw_all := lw_g (lw_at lw_m6 214 rfl) rfl
theorem q1532 : (Jvm.Cond.lays "SevenTable$EveningReader" "SevenTable$Reader" "sign" "I") ∈ lw_all := lw_g (lw_at lw_m6 215 rfl) rfl
theorem q1533 : (Jvm.Cond.lays "SevenTable$EveningReader" "SevenTable$Reader" "word" "Ljava/lang/String;") ∈ lw_all := lw_g (lw_at lw_m6 216 rfl) rfl
theorem q1534 : (Jvm.Cond.superclass "SevenTable$EveningReader" "SevenTable$Reader") ∈ lw_all := lw_g (lw_at lw_m6 217 rfl) rfl
theorem q1536 : (Jvm.Cond.instanceMethod ({ cls := "SevenTable$EveningReader", name := "read", desc := "()LSevenTable$EveningReader;" } : Jvm.MethodName)) ∈ lw_all := lw_g (lw_at lw_m6 219 rfl) rfl
theorem q1537 : (Jvm.Cond.selects "SevenTable$EveningReader" ({ cls := "SevenTable$EveningReader", name := "read", desc := "()LSevenTable$EveningReader;" } : Jvm.MethodName) ({ cls := "SevenTable$EveningReader", name := "read", desc := "()LSevenTable$EveningReader;" } : Jvm.MethodName)) ∈ lw_all := lw_g (lw_at lw_m6 220 rfl) rfl
theorem q1538 : (Jvm.Cond.code ({ cls := "SevenTable$EveningReader", name := "read", desc := "()LSevenTable$EveningReader;" } : Jvm.MethodName) prog_4_method_2_code (2 : Nat) (Option.some (Jvm.ClassFile.FieldType.object "SevenTable$EveningReader"))) ∈ lw_all := lw_g (lw_at lw_m6 221 rfl) rfl
theorem q1539 : (Jvm.Cond.methodLink "SevenTable$EveningReader" (19 : Nat) ({ cls := "SevenTable$EveningReader", name := "go", desc := "()V" } : Jvm.MethodName)) ∈ lw_all := lw_g (lw_at lw_m6 222 rfl) rfl
theorem q1540 : (Jvm.Cond.sameMethod "SevenTable$EveningReader" "SevenTable$Reader" "go" "()V") ∈ lw_all := lw_g (lw_at lw_m6 223 rfl) rfl
theorem q1541 : (Jvm.Cond.selects "SevenTable$EveningReader" ({ cls := "SevenTable$EveningReader", name := "go", desc := "()V" } : Jvm.MethodName) ({ cls := "SevenTable$Reader", name := "go", desc := "()V" } : Jvm.MethodName)) ∈ lw_all := lw_g (lw_at lw_m6 224 rfl) rfl
theorem q1542 : (Jvm.Cond.methodLink "SevenTable$EveningReader" (26 : Nat) ({ cls := "SevenTable$EveningReader", name := "isName", desc := "()Z" } : Jvm.MethodName)) ∈ lw_all := lw_g (lw_at lw_m6 225 rfl) rfl
theorem q1543 : (Jvm.Cond.sameMethod "SevenTable$EveningReader" "SevenTable$Reader" "isName" "()Z") ∈ lw_all := lw_g (lw_at lw_m6 226 rfl) rfl
theorem q1544 : (Jvm.Cond.selects "SevenTable$EveningReader" ({ cls := "SevenTable$EveningReader", name := "isName", desc := "()Z" } : Jvm.MethodName) ({ cls := "SevenTable$Reader", name := "isName", desc := "()Z" } : Jvm.MethodName)) ∈ lw_all := lw_g (lw_at lw_m6 227 rfl) rfl
theorem q1545 : (Jvm.Cond.methodLink "SevenTable$EveningReader" (30 : Nat) ({ cls := "SevenTable$EveningReader", name := "need", desc := "(ZI)V" } : Jvm.MethodName)) ∈ lw_all := lw_g (lw_at lw_m6 228 rfl) rfl
theorem q1546 : (Jvm.Cond.sameMethod "SevenTable$EveningReader" "SevenTable$Reader" "need" "(ZI)V") ∈ lw_all := lw_g (lw_at lw_m6 229 rfl) rfl
theorem q1547 : (Jvm.Cond.selects "SevenTable$EveningReader" ({ cls := "SevenTable$EveningReader", name := "need", desc := "(ZI)V" } : Jvm.MethodName) ({ cls := "SevenTable$Reader", name := "need", desc := "(ZI)V" } : Jvm.MethodName)) ∈ lw_all := lw_g (lw_at lw_m6 230 rfl) rfl
theorem q1548 : (Jvm.Cond.methodLink "SevenTable$EveningReader" (50 : Nat) ({ cls := "java/util/ArrayList", name := "indexOf", desc := "(Ljava/lang/Object;)I" } : Jvm.MethodName)) ∈ lw_all := lw_g (lw_at lw_m6 231 rfl) rfl
theorem q1549 : (Jvm.Cond.methodLink "SevenTable$EveningReader" (56 : Nat) ({ cls := "SevenTable$EveningReader", name := "person", desc := "(LSevenTable$Table;)I" } : Jvm.MethodName)) ∈ lw_all := lw_g (lw_at lw_m6 232 rfl) rfl
theorem q1550 : (Jvm.Cond.sameMethod "SevenTable$EveningReader" "SevenTable$Reader" "person" "(LSevenTable$Table;)I") ∈ lw_all := lw_g (lw_at lw_m6 233 rfl) rfl
theorem q1551 : (Jvm.Cond.selects "SevenTable$EveningReader" ({ cls := "SevenTable$EveningReader", name := "person", desc := "(LSevenTable$Table;)I" } : Jvm.MethodName) ({ cls := "SevenTable$Reader", name := "person", desc := "(LSevenTable$Table;)I" } : Jvm.MethodName)) ∈ lw_all := lw_g (lw_at lw_m6 234 rfl) rfl
theorem q1552 : (Jvm.Cond.methodLink "SevenTable$EveningReader" (60 : Nat) ({ cls := "SevenTable$EveningReader", name := "line", desc := "(I)V" } : Jvm.MethodName)) ∈ lw_all := lw_g (lw_at lw_m6 235 rfl) rfl
theorem q1553 : (Jvm.Cond.privateMethod ({ cls := "SevenTable$EveningReader", name := "line", desc := "(I)V" } : Jvm.MethodName)) ∈ lw_tbl := lw_at lw_m6 236 rfl
theorem q1554 : (Jvm.Cond.instanceMethod ({ cls := "SevenTable$EveningReader", name := "line", desc := "(I)V" } : Jvm.MethodName)) ∈ lw_all := lw_g (lw_at lw_m6 237 rfl) rfl
theorem q1555 : (Jvm.Cond.code ({ cls := "SevenTable$EveningReader", name := "line", desc := "(I)V" } : Jvm.MethodName) prog_4_method_3_code (6 : Nat) (Option.none : Option Jvm.ClassFile.FieldType)) ∈ lw_all := lw_g (lw_at lw_m6 238 rfl) rfl
theorem q1556 : (Jvm.Cond.stringRef "SevenTable$EveningReader" (64 : Nat) "asks") ∈ lw_tbl := lw_at lw_m6 239 rfl
theorem q1557 : (Jvm.Cond.methodLink "SevenTable$EveningReader" (66 : Nat) ({ cls := "SevenTable$EveningReader", name := "is", desc := "(Ljava/lang/String;)Z" } : Jvm.MethodName)) ∈ lw_all := lw_g (lw_at lw_m7 0 rfl) rfl
theorem q1558 : (Jvm.Cond.sameMethod "SevenTable$EveningReader" "SevenTable$Reader" "is" "(Ljava/lang/String;)Z") ∈ lw_all := lw_g (lw_at lw_m7 1 rfl) rfl
theorem q1559 : (Jvm.Cond.selects "SevenTable$EveningReader" ({ cls := "SevenTable$EveningReader", name := "is", desc := "(Ljava/lang/String;)Z" } : Jvm.MethodName) ({ cls := "SevenTable$Reader", name := "is", desc := "(Ljava/lang/String;)Z" } : Jvm.MethodName)) ∈ lw_all := lw_g (lw_at lw_m7 2 rfl) rfl
theorem q1560 : (Jvm.Cond.methodLink "SevenTable$EveningReader" (73 : Nat) ({ cls := "SevenTable$EveningReader", name := "number", desc := "(II)I" } : Jvm.MethodName)) ∈ lw_all := lw_g (lw_at lw_m7 3 rfl) rfl
theorem q1561 : (Jvm.Cond.sameMethod "SevenTable$EveningReader" "SevenTable$Reader" "number" "(II)I") ∈ lw_all := lw_g (lw_at lw_m7 4 rfl) rfl
theorem q1562 : (Jvm.Cond.selects "SevenTable$EveningReader" ({ cls := "SevenTable$EveningReader", name := "number", desc := "(II)I" } : Jvm.MethodName) ({ cls := "SevenTable$Reader", name := "number", desc := "(II)I" } : Jvm.MethodName)) ∈ lw_all := lw_g (lw_at lw_m7 5 rfl) rfl
theorem q1563 : (Jvm.Cond.stringRef "SevenTable$EveningReader" (77 : Nat) "gives") ∈ lw_tbl := lw_at lw_m7 6 rfl
theorem q1564 : (Jvm.Cond.stringRef "SevenTable$EveningReader" (79 : Nat) "no") ∈ lw_tbl := lw_at lw_m7 7 rfl
theorem q1565 : (Jvm.Cond.methodLink "SevenTable$EveningReader" (81 : Nat) ({ cls := "SevenTable$EveningReader", name := "end", desc := "()V" } : Jvm.MethodName)) ∈ lw_all := lw_g (lw_at lw_m7 8 rfl) rfl
theorem q1566 : (Jvm.Cond.sameMethod "SevenTable$EveningReader" "SevenTable$Reader" "end" "()V") ∈ lw_all := lw_g (lw_at lw_m7 9 rfl) rfl
theorem q1567 : (Jvm.Cond.selects "SevenTable$EveningReader" ({ cls := "SevenTable$EveningReader", name := "end", desc := "()V" } : Jvm.MethodName) ({ cls := "SevenTable$Reader", name := "end", desc := "()V" } : Jvm.MethodName)) ∈ lw_all := lw_g (lw_at lw_m7 10 rfl) rfl
theorem q1568 : (Jvm.Cond.methodLink "SevenTable$EveningReader" (87 : Nat) ({ cls := "SevenTable$EveningReader", name := "judge", desc := "(IIII)V" } : Jvm.MethodName)) ∈ lw_all := lw_g (lw_at lw_m7 11 rfl) rfl
theorem q1569 : (Jvm.Cond.privateMethod ({ cls := "SevenTable$EveningReader", name := "judge", desc := "(IIII)V" } : Jvm.MethodName)) ∈ lw_tbl := lw_at lw_m7 12 rfl
theorem q1570 : (Jvm.Cond.instanceMethod ({ cls := "SevenTable$EveningReader", name := "judge", desc := "(IIII)V" } : Jvm.MethodName)) ∈ lw_all := lw_g (lw_at lw_m7 13 rfl) rfl
theorem q1571 : (Jvm.Cond.code ({ cls := "SevenTable$EveningReader", name := "judge", desc := "(IIII)V" } : Jvm.MethodName) prog_4_method_4_code (5 : Nat) (Option.none : Option Jvm.ClassFile.FieldType)) ∈ lw_all := lw_g (lw_at lw_m7 14 rfl) rfl
theorem q1572 : (Jvm.Cond.methodLink "SevenTable$EveningReader" (91 : Nat) ({ cls := "SevenTable$Game", name := "whyNot", desc := "(III)I" } : Jvm.MethodName)) ∈ lw_all := lw_g (lw_at lw_m7 15 rfl) rfl
theorem q1573 : (Jvm.Cond.methodLink "SevenTable$EveningReader" (102 : Nat) ({ cls := "SevenTable$Game", name := "asks", desc := "(IIIZ)I" } : Jvm.MethodName)) ∈ lw_all := lw_g (lw_at lw_m7 16 rfl) rfl
theorem q2477 : (Jvm.Cond.selects "SevenTable$EveningReader" ({ cls := "SevenTable$Reader", name := "need", desc := "(ZI)V" } : Jvm.MethodName) ({ cls := "SevenTable$Reader", name := "need", desc := "(ZI)V" } : Jvm.MethodName)) ∈ lw_all := lw_g (lw_at lw_m10 200 rfl) rfl
theorem q2481 : (Jvm.Cond.selects "SevenTable$EveningReader" ({ cls := "SevenTable$Reader", name := "go", desc := "()V" } : Jvm.MethodName) ({ cls := "SevenTable$Reader", name := "go", desc := "()V" } : Jvm.MethodName)) ∈ lw_all := lw_g (lw_at lw_m10 204 rfl) rfl
theorem q2489 : (Jvm.Cond.selects "SevenTable$EveningReader" ({ cls := "SevenTable$Reader", name := "isName", desc := "()Z" } : Jvm.MethodName) ({ cls := "SevenTable$Reader", name := "isName", desc := "()Z" } : Jvm.MethodName)) ∈ lw_all := lw_g (lw_at lw_m10 212 rfl) rfl
theorem q2510 : (Jvm.Cond.castable "SevenTable$EveningReader" "java/lang/Object") ∈ lw_tbl := lw_at lw_m10 233 rfl
theorem in_X15 : ∀ w ∈ wsX150, w ∈ lw_all := lw_in wsX150 [1525, 1526, 1527, 1528, 1529, 1530, 1531, 1532, 1533, 1517, 1519, 1521, 1523] (by decide +kernel) (by decide +kernel)
/-! SevenTable$SentenceReader -/
set_option maxRecDepth 100000
def RX16 : String := "SevenTable$SentenceReader"
def TX16 : u_T := fun k => match k with
  | 0 => ("SevenTable$Reader", "tape", "[B", true)
  | 1 => ("SevenTable$Reader", "size", "I", true)
  | 2 => ("SevenTable$Reader", "limit", "I", true)
  | 3 => ("SevenTable$Reader", "to", "I", false)
  | 4 => ("SevenTable$Reader", "kind", "I", false)
  | 5 => ("SevenTable$Reader", "from", "I", false)
  | 6 => ("SevenTable$Reader", "number", "I", false)
  | 7 => ("SevenTable$Reader", "sign", "I", false)
  | 8 => ("SevenTable$Reader", "word", "Ljava/lang/String;", false)
  | 9 => ("SevenTable$SentenceReader", "t", "LSevenTable$Table;", true)
  | 10 => ("SevenTable$SentenceReader", "ones", "I", false)
  | _ => ("SevenTable$SentenceReader", "within", "I", false)
def tyX16 : Nat → FieldType := fun k => match k with
  | 0 => .array .byte
  | 1 => .int
  | 2 => .int
  | 3 => .int
  | 4 => .int
  | 5 => .int
  | 6 => .int
  | 7 => .int
  | 8 => .object "java/lang/String"
  | 9 => .object "SevenTable$Table"
  | 10 => .int
  | _ => .int
abbrev wsX160 : List Cond := u_ws RX16 TX16 12
theorem nmX16 : ∀ a, a < 12 → ∀ b, b < 12 → a ≠ b → (TX16 a).2.1 ≠ (TX16 b).2.1 := by decide +kernel
theorem tyX16_ok : ∀ k, k < 12 → parseFieldDescriptor (TX16 k).2.2.1 = some (tyX16 k) := by decide +kernel
abbrev cX16_init : ByteArray := prog_17_method_1_code
def yX16_init : MethodName := ⟨RX16, "<init>", "([BILSevenTable$Table;)V"⟩
def dkwX16_init_0 : List UInt8 := [42, 43, 28, 17, 0, 200, 183, 0, 3, 42, 45, 181, 0, 9, 177]
abbrev dktX16_init_0 : List UInt8 := dkwX16_init_0 ++ []
theorem dksX16_init_0 : cX16_init.data.toList.drop 0 = dktX16_init_0 := by decide +kernel
theorem dX16_init_0 : decode cX16_init 0 = .ok (.aload_n 0, 1) := dk_42 (dk_at dksX16_init_0 0 rfl rfl)
theorem dX16_init_1 : decode cX16_init 1 = .ok (.aload_n 1, 1) := dk_43 (dk_at dksX16_init_0 1 rfl rfl)
theorem dX16_init_2 : decode cX16_init 2 = .ok (.iload_n 2, 1) := dk_28 (dk_at dksX16_init_0 2 rfl rfl)
theorem dX16_init_3 : decode cX16_init 3 = .ok (.sipush 200, 3) := dk_17 0 200 (dk_at dksX16_init_0 3 rfl rfl)
theorem dX16_init_6 : decode cX16_init 6 = .ok (.invokespecial 3, 3) := dk_183 0 3 (dk_at dksX16_init_0 6 rfl rfl)
theorem dX16_init_9 : decode cX16_init 9 = .ok (.aload_n 0, 1) := dk_42 (dk_at dksX16_init_0 9 rfl rfl)
theorem dX16_init_10 : decode cX16_init 10 = .ok (.aload_n 3, 1) := dk_45 (dk_at dksX16_init_0 10 rfl rfl)
theorem dX16_init_11 : decode cX16_init 11 = .ok (.putfield 9, 3) := dk_181 0 9 (dk_at dksX16_init_0 11 rfl rfl)
theorem dX16_init_14 : decode cX16_init 14 = .ok (.return_, 1) := dk_177 (dk_at dksX16_init_0 14 rfl rfl)
abbrev cX16_read : ByteArray := prog_17_method_2_code
def yX16_read : MethodName := ⟨RX16, "read", "()LSevenTable$Cond;"⟩
def dkwX16_read_1 : List UInt8 := [182, 0, 27, 43, 176]
abbrev dktX16_read_1 : List UInt8 := dkwX16_read_1 ++ []
def dkwX16_read_0 : List UInt8 := [42, 182, 0, 15, 42, 182, 0, 19, 76, 42, 42, 180, 0, 23, 154, 0, 7, 4, 167, 0, 4, 3, 4]
abbrev dktX16_read_0 : List UInt8 := dkwX16_read_0 ++ dktX16_read_1
theorem dksX16_read_0 : cX16_read.data.toList.drop 0 = dktX16_read_0 := by decide +kernel
theorem dksX16_read_1 : cX16_read.data.toList.drop 23 = dktX16_read_1 := dk_seg dksX16_read_0 23 rfl rfl
theorem dX16_read_0 : decode cX16_read 0 = .ok (.aload_n 0, 1) := dk_42 (dk_at dksX16_read_0 0 rfl rfl)
theorem dX16_read_1 : decode cX16_read 1 = .ok (.invokevirtual 15, 3) := dk_182 0 15 (dk_at dksX16_read_0 1 rfl rfl)
theorem dX16_read_4 : decode cX16_read 4 = .ok (.aload_n 0, 1) := dk_42 (dk_at dksX16_read_0 4 rfl rfl)
theorem dX16_read_5 : decode cX16_read 5 = .ok (.invokevirtual 19, 3) := dk_182 0 19 (dk_at dksX16_read_0 5 rfl rfl)
theorem dX16_read_8 : decode cX16_read 8 = .ok (.astore_n 1, 1) := dk_76 (dk_at dksX16_read_0 8 rfl rfl)
theorem dX16_read_9 : decode cX16_read 9 = .ok (.aload_n 0, 1) := dk_42 (dk_at dksX16_read_0 9 rfl rfl)
theorem dX16_read_10 : decode cX16_read 10 = .ok (.aload_n 0, 1) := dk_42 (dk_at dksX16_read_0 10 rfl rfl)
theorem dX16_read_11 : decode cX16_read 11 = .ok (.getfield 23, 3) := dk_180 0 23 (dk_at dksX16_read_0 11 rfl rfl)
theorem dX16_read_14 : decode cX16_read 14 = .ok (.ifCond .ne 7, 3) := dk_154 0 7 (dk_at dksX16_read_0 14 rfl rfl)
theorem dX16_read_17 : decode cX16_read 17 = .ok (.iconst 1, 1) := dk_4 (dk_at dksX16_read_0 17 rfl rfl)
theorem dX16_read_18 : decode cX16_read 18 = .ok (.goto 4, 3) := dk_167 0 4 (dk_at dksX16_read_0 18 rfl rfl)
theorem dX16_read_21 : decode cX16_read 21 = .ok (.iconst 0, 1) := dk_3 (dk_at dksX16_read_0 21 rfl rfl)
theorem dX16_read_22 : decode cX16_read 22 = .ok (.iconst 1, 1) := dk_4 (dk_at dksX16_read_0 22 rfl rfl)
theorem dX16_read_23 : decode cX16_read 23 = .ok (.invokevirtual 27, 3) := dk_182 0 27 (dk_at dksX16_read_1 0 rfl rfl)
theorem dX16_read_26 : decode cX16_read 26 = .ok (.aload_n 1, 1) := dk_43 (dk_at dksX16_read_1 3 rfl rfl)
theorem dX16_read_27 : decode cX16_read 27 = .ok (.areturn, 1) := dk_176 (dk_at dksX16_read_1 4 rfl rfl)
abbrev cX16_or : ByteArray := prog_17_method_3_code
def yX16_or : MethodName := ⟨RX16, "or", "()LSevenTable$Cond;"⟩
def dkwX16_or_1 : List UInt8 := [182, 0, 31, 3, 183, 0, 41, 76, 167, 255, 229, 43, 176]
abbrev dktX16_or_1 : List UInt8 := dkwX16_or_1 ++ []
def dkwX16_or_0 : List UInt8 := [42, 182, 0, 31, 76, 42, 18, 34, 182, 0, 35, 153, 0, 24, 42, 182, 0, 15, 187, 0, 39, 89, 43, 42]
abbrev dktX16_or_0 : List UInt8 := dkwX16_or_0 ++ dktX16_or_1
theorem dksX16_or_0 : cX16_or.data.toList.drop 0 = dktX16_or_0 := by decide +kernel
theorem dksX16_or_1 : cX16_or.data.toList.drop 24 = dktX16_or_1 := dk_seg dksX16_or_0 24 rfl rfl
theorem dX16_or_0 : decode cX16_or 0 = .ok (.aload_n 0, 1) := dk_42 (dk_at dksX16_or_0 0 rfl rfl)
theorem dX16_or_1 : decode cX16_or 1 = .ok (.invokevirtual 31, 3) := dk_182 0 31 (dk_at dksX16_or_0 1 rfl rfl)
theorem dX16_or_4 : decode cX16_or 4 = .ok (.astore_n 1, 1) := dk_76 (dk_at dksX16_or_0 4 rfl rfl)
theorem dX16_or_5 : decode cX16_or 5 = .ok (.aload_n 0, 1) := dk_42 (dk_at dksX16_or_0 5 rfl rfl)
theorem dX16_or_6 : decode cX16_or 6 = .ok (.ldc 34, 2) := dk_18 34 (dk_at dksX16_or_0 6 rfl rfl)
theorem dX16_or_8 : decode cX16_or 8 = .ok (.invokevirtual 35, 3) := dk_182 0 35 (dk_at dksX16_or_0 8 rfl rfl)
theorem dX16_or_11 : decode cX16_or 11 = .ok (.ifCond .eq 24, 3) := dk_153 0 24 (dk_at dksX16_or_0 11 rfl rfl)
theorem dX16_or_14 : decode cX16_or 14 = .ok (.aload_n 0, 1) := dk_42 (dk_at dksX16_or_0 14 rfl rfl)
theorem dX16_or_15 : decode cX16_or 15 = .ok (.invokevirtual 15, 3) := dk_182 0 15 (dk_at dksX16_or_0 15 rfl rfl)
theorem dX16_or_18 : decode cX16_or 18 = .ok (.new 39, 3) := dk_187 0 39 (dk_at dksX16_or_0 18 rfl rfl)
theorem dX16_or_21 : decode cX16_or 21 = .ok (.dup, 1) := dk_89 (dk_at dksX16_or_0 21 rfl rfl)
theorem dX16_or_22 : decode cX16_or 22 = .ok (.aload_n 1, 1) := dk_43 (dk_at dksX16_or_0 22 rfl rfl)
theorem dX16_or_23 : decode cX16_or 23 = .ok (.aload_n 0, 1) := dk_42 (dk_at dksX16_or_0 23 rfl rfl)
theorem dX16_or_24 : decode cX16_or 24 = .ok (.invokevirtual 31, 3) := dk_182 0 31 (dk_at dksX16_or_1 0 rfl rfl)
theorem dX16_or_27 : decode cX16_or 27 = .ok (.iconst 0, 1) := dk_3 (dk_at dksX16_or_1 3 rfl rfl)
theorem dX16_or_28 : decode cX16_or 28 = .ok (.invokespecial 41, 3) := dk_183 0 41 (dk_at dksX16_or_1 4 rfl rfl)
theorem dX16_or_31 : decode cX16_or 31 = .ok (.astore_n 1, 1) := dk_76 (dk_at dksX16_or_1 7 rfl rfl)
theorem dX16_or_32 : decode cX16_or 32 = .ok (.goto (-27), 3) := dk_167 255 229 (dk_at dksX16_or_1 8 rfl rfl)
theorem dX16_or_35 : decode cX16_or 35 = .ok (.aload_n 1, 1) := dk_43 (dk_at dksX16_or_1 11 rfl rfl)
theorem dX16_or_36 : decode cX16_or 36 = .ok (.areturn, 1) := dk_176 (dk_at dksX16_or_1 12 rfl rfl)
abbrev cX16_and : ByteArray := prog_17_method_4_code
def yX16_and : MethodName := ⟨RX16, "and", "()LSevenTable$Cond;"⟩
def dkwX16_and_1 : List UInt8 := [182, 0, 44, 4, 183, 0, 41, 76, 167, 255, 229, 43, 176]
abbrev dktX16_and_1 : List UInt8 := dkwX16_and_1 ++ []
def dkwX16_and_0 : List UInt8 := [42, 182, 0, 44, 76, 42, 18, 47, 182, 0, 35, 153, 0, 24, 42, 182, 0, 15, 187, 0, 39, 89, 43, 42]
abbrev dktX16_and_0 : List UInt8 := dkwX16_and_0 ++ dktX16_and_1
theorem dksX16_and_0 : cX16_and.data.toList.drop 0 = dktX16_and_0 := by decide +kernel
theorem dksX16_and_1 : cX16_and.data.toList.drop 24 = dktX16_and_1 := dk_seg dksX16_and_0 24 rfl rfl
theorem dX16_and_0 : decode cX16_and 0 = .ok (.aload_n 0, 1) := dk_42 (dk_at dksX16_and_0 0 rfl rfl)
theorem dX16_and_1 : decode cX16_and 1 = .ok (.invokevirtual 44, 3) := dk_182 0 44 (dk_at dksX16_and_0 1 rfl rfl)
theorem dX16_and_4 : decode cX16_and 4 = .ok (.astore_n 1, 1) := dk_76 (dk_at dksX16_and_0 4 rfl rfl)
theorem dX16_and_5 : decode cX16_and 5 = .ok (.aload_n 0, 1) := dk_42 (dk_at dksX16_and_0 5 rfl rfl)
theorem dX16_and_6 : decode cX16_and 6 = .ok (.ldc 47, 2) := dk_18 47 (dk_at dksX16_and_0 6 rfl rfl)
theorem dX16_and_8 : decode cX16_and 8 = .ok (.invokevirtual 35, 3) := dk_182 0 35 (dk_at dksX16_and_0 8 rfl rfl)
theorem dX16_and_11 : decode cX16_and 11 = .ok (.ifCond .eq 24, 3) := dk_153 0 24 (dk_at dksX16_and_0 11 rfl rfl)
theorem dX16_and_14 : decode cX16_and 14 = .ok (.aload_n 0, 1) := dk_42 (dk_at dksX16_and_0 14 rfl rfl)
theorem dX16_and_15 : decode cX16_and 15 = .ok (.invokevirtual 15, 3) := dk_182 0 15 (dk_at dksX16_and_0 15 rfl rfl)
theorem dX16_and_18 : decode cX16_and 18 = .ok (.new 39, 3) := dk_187 0 39 (dk_at dksX16_and_0 18 rfl rfl)
theorem dX16_and_21 : decode cX16_and 21 = .ok (.dup, 1) := dk_89 (dk_at dksX16_and_0 21 rfl rfl)
theorem dX16_and_22 : decode cX16_and 22 = .ok (.aload_n 1, 1) := dk_43 (dk_at dksX16_and_0 22 rfl rfl)
theorem dX16_and_23 : decode cX16_and 23 = .ok (.aload_n 0, 1) := dk_42 (dk_at dksX16_and_0 23 rfl rfl)
theorem dX16_and_24 : decode cX16_and 24 = .ok (.invokevirtual 44, 3) := dk_182 0 44 (dk_at dksX16_and_1 0 rfl rfl)
theorem dX16_and_27 : decode cX16_and 27 = .ok (.iconst 1, 1) := dk_4 (dk_at dksX16_and_1 3 rfl rfl)
theorem dX16_and_28 : decode cX16_and 28 = .ok (.invokespecial 41, 3) := dk_183 0 41 (dk_at dksX16_and_1 4 rfl rfl)
theorem dX16_and_31 : decode cX16_and 31 = .ok (.astore_n 1, 1) := dk_76 (dk_at dksX16_and_1 7 rfl rfl)
theorem dX16_and_32 : decode cX16_and 32 = .ok (.goto (-27), 3) := dk_167 255 229 (dk_at dksX16_and_1 8 rfl rfl)
theorem dX16_and_35 : decode cX16_and 35 = .ok (.aload_n 1, 1) := dk_43 (dk_at dksX16_and_1 11 rfl rfl)
theorem dX16_and_36 : decode cX16_and 36 = .ok (.areturn, 1) := dk_176 (dk_at dksX16_and_1 12 rfl rfl)
abbrev cX16_one : ByteArray := prog_17_method_6_code
def yX16_one : MethodName := ⟨RX16, "one", "()LSevenTable$Cond;"⟩
def dkwX16_one_10 : List UInt8 := [180, 0, 74, 4, 100, 181, 0, 74, 25, 7, 176]
abbrev dktX16_one_10 : List UInt8 := dkwX16_one_10 ++ []
def dkwX16_one_9 : List UInt8 := [180, 0, 9, 182, 0, 91, 21, 4, 183, 0, 95, 167, 0, 9, 42, 21, 6, 182, 0, 98, 58, 7, 42, 89]
abbrev dktX16_one_9 : List UInt8 := dkwX16_one_9 ++ dktX16_one_10
def dkwX16_one_8 : List UInt8 := [183, 0, 87, 167, 0, 39, 21, 4, 154, 0, 8, 21, 5, 153, 0, 23, 187, 0, 89, 89, 42, 42]
abbrev dktX16_one_8 : List UInt8 := dkwX16_one_8 ++ dktX16_one_9
def dkwX16_one_7 : List UInt8 := [187, 0, 80, 89, 42, 182, 0, 44, 183, 0, 82, 167, 0, 53, 29, 153, 0, 13, 187, 0, 85, 89]
abbrev dktX16_one_7 : List UInt8 := dkwX16_one_7 ++ dktX16_one_8
def dkwX16_one_6 : List UInt8 := [96, 181, 0, 74, 42, 182, 0, 15, 27, 153, 0, 10, 42, 182, 0, 77, 167, 0, 71, 28, 153, 0, 17]
abbrev dktX16_one_6 : List UInt8 := dkwX16_one_6 ++ dktX16_one_7
def dkwX16_one_5 : List UInt8 := [167, 0, 4, 3, 7, 182, 0, 27, 42, 89, 180, 0, 71, 4, 96, 181, 0, 71, 42, 89, 180, 0, 74, 4]
abbrev dktX16_one_5 : List UInt8 := dkwX16_one_5 ++ dktX16_one_6
def dkwX16_one_4 : List UInt8 := [4, 182, 0, 27, 42, 42, 180, 0, 71, 16, 20, 162, 0, 16, 42, 180, 0, 74, 16, 8, 162, 0, 7, 4]
abbrev dktX16_one_4 : List UInt8 := dkwX16_one_4 ++ dktX16_one_5
def dkwX16_one_3 : List UInt8 := [154, 0, 19, 21, 4, 154, 0, 14, 21, 5, 154, 0, 9, 21, 6, 2, 159, 0, 7, 4, 167, 0, 4, 3]
abbrev dktX16_one_3 : List UInt8 := dkwX16_one_3 ++ dktX16_one_4
def dkwX16_one_2 : List UInt8 := [18, 65, 182, 0, 35, 54, 5, 42, 182, 0, 67, 54, 6, 42, 27, 154, 0, 27, 28, 154, 0, 23, 29]
abbrev dktX16_one_2 : List UInt8 := dkwX16_one_2 ++ dktX16_one_3
def dkwX16_one_1 : List UInt8 := [42, 18, 59, 182, 0, 35, 61, 42, 18, 61, 182, 0, 35, 62, 42, 18, 63, 182, 0, 35, 54, 4, 42]
abbrev dktX16_one_1 : List UInt8 := dkwX16_one_1 ++ dktX16_one_2
def dkwX16_one_0 : List UInt8 := [42, 180, 0, 23, 16, 6, 160, 0, 16, 42, 180, 0, 56, 16, 40, 160, 0, 7, 4, 167, 0, 4, 3, 60]
abbrev dktX16_one_0 : List UInt8 := dkwX16_one_0 ++ dktX16_one_1
theorem dksX16_one_0 : cX16_one.data.toList.drop 0 = dktX16_one_0 := by decide +kernel
theorem dksX16_one_1 : cX16_one.data.toList.drop 24 = dktX16_one_1 := dk_seg dksX16_one_0 24 rfl rfl
theorem dksX16_one_2 : cX16_one.data.toList.drop 47 = dktX16_one_2 := dk_seg dksX16_one_1 23 rfl rfl
theorem dksX16_one_3 : cX16_one.data.toList.drop 70 = dktX16_one_3 := dk_seg dksX16_one_2 23 rfl rfl
theorem dksX16_one_4 : cX16_one.data.toList.drop 94 = dktX16_one_4 := dk_seg dksX16_one_3 24 rfl rfl
theorem dksX16_one_5 : cX16_one.data.toList.drop 118 = dktX16_one_5 := dk_seg dksX16_one_4 24 rfl rfl
theorem dksX16_one_6 : cX16_one.data.toList.drop 142 = dktX16_one_6 := dk_seg dksX16_one_5 24 rfl rfl
theorem dksX16_one_7 : cX16_one.data.toList.drop 165 = dktX16_one_7 := dk_seg dksX16_one_6 23 rfl rfl
theorem dksX16_one_8 : cX16_one.data.toList.drop 187 = dktX16_one_8 := dk_seg dksX16_one_7 22 rfl rfl
theorem dksX16_one_9 : cX16_one.data.toList.drop 209 = dktX16_one_9 := dk_seg dksX16_one_8 22 rfl rfl
theorem dksX16_one_10 : cX16_one.data.toList.drop 233 = dktX16_one_10 := dk_seg dksX16_one_9 24 rfl rfl
theorem dX16_one_0 : decode cX16_one 0 = .ok (.aload_n 0, 1) := dk_42 (dk_at dksX16_one_0 0 rfl rfl)
theorem dX16_one_1 : decode cX16_one 1 = .ok (.getfield 23, 3) := dk_180 0 23 (dk_at dksX16_one_0 1 rfl rfl)
theorem dX16_one_4 : decode cX16_one 4 = .ok (.bipush 6, 2) := dk_16 6 (dk_at dksX16_one_0 4 rfl rfl)
theorem dX16_one_6 : decode cX16_one 6 = .ok (.if_icmp .ne 16, 3) := dk_160 0 16 (dk_at dksX16_one_0 6 rfl rfl)
theorem dX16_one_9 : decode cX16_one 9 = .ok (.aload_n 0, 1) := dk_42 (dk_at dksX16_one_0 9 rfl rfl)
theorem dX16_one_10 : decode cX16_one 10 = .ok (.getfield 56, 3) := dk_180 0 56 (dk_at dksX16_one_0 10 rfl rfl)
theorem dX16_one_13 : decode cX16_one 13 = .ok (.bipush 40, 2) := dk_16 40 (dk_at dksX16_one_0 13 rfl rfl)
theorem dX16_one_15 : decode cX16_one 15 = .ok (.if_icmp .ne 7, 3) := dk_160 0 7 (dk_at dksX16_one_0 15 rfl rfl)
theorem dX16_one_18 : decode cX16_one 18 = .ok (.iconst 1, 1) := dk_4 (dk_at dksX16_one_0 18 rfl rfl)
theorem dX16_one_19 : decode cX16_one 19 = .ok (.goto 4, 3) := dk_167 0 4 (dk_at dksX16_one_0 19 rfl rfl)
theorem dX16_one_22 : decode cX16_one 22 = .ok (.iconst 0, 1) := dk_3 (dk_at dksX16_one_0 22 rfl rfl)
theorem dX16_one_23 : decode cX16_one 23 = .ok (.istore_n 1, 1) := dk_60 (dk_at dksX16_one_0 23 rfl rfl)
theorem dX16_one_24 : decode cX16_one 24 = .ok (.aload_n 0, 1) := dk_42 (dk_at dksX16_one_1 0 rfl rfl)
theorem dX16_one_25 : decode cX16_one 25 = .ok (.ldc 59, 2) := dk_18 59 (dk_at dksX16_one_1 1 rfl rfl)
theorem dX16_one_27 : decode cX16_one 27 = .ok (.invokevirtual 35, 3) := dk_182 0 35 (dk_at dksX16_one_1 3 rfl rfl)
theorem dX16_one_30 : decode cX16_one 30 = .ok (.istore_n 2, 1) := dk_61 (dk_at dksX16_one_1 6 rfl rfl)
theorem dX16_one_31 : decode cX16_one 31 = .ok (.aload_n 0, 1) := dk_42 (dk_at dksX16_one_1 7 rfl rfl)
theorem dX16_one_32 : decode cX16_one 32 = .ok (.ldc 61, 2) := dk_18 61 (dk_at dksX16_one_1 8 rfl rfl)
theorem dX16_one_34 : decode cX16_one 34 = .ok (.invokevirtual 35, 3) := dk_182 0 35 (dk_at dksX16_one_1 10 rfl rfl)
theorem dX16_one_37 : decode cX16_one 37 = .ok (.istore_n 3, 1) := dk_62 (dk_at dksX16_one_1 13 rfl rfl)
theorem dX16_one_38 : decode cX16_one 38 = .ok (.aload_n 0, 1) := dk_42 (dk_at dksX16_one_1 14 rfl rfl)
theorem dX16_one_39 : decode cX16_one 39 = .ok (.ldc 63, 2) := dk_18 63 (dk_at dksX16_one_1 15 rfl rfl)
theorem dX16_one_41 : decode cX16_one 41 = .ok (.invokevirtual 35, 3) := dk_182 0 35 (dk_at dksX16_one_1 17 rfl rfl)
theorem dX16_one_44 : decode cX16_one 44 = .ok (.istore 4, 2) := dk_54 4 (dk_at dksX16_one_1 20 rfl rfl)
theorem dX16_one_46 : decode cX16_one 46 = .ok (.aload_n 0, 1) := dk_42 (dk_at dksX16_one_1 22 rfl rfl)
theorem dX16_one_47 : decode cX16_one 47 = .ok (.ldc 65, 2) := dk_18 65 (dk_at dksX16_one_2 0 rfl rfl)
theorem dX16_one_49 : decode cX16_one 49 = .ok (.invokevirtual 35, 3) := dk_182 0 35 (dk_at dksX16_one_2 2 rfl rfl)
theorem dX16_one_52 : decode cX16_one 52 = .ok (.istore 5, 2) := dk_54 5 (dk_at dksX16_one_2 5 rfl rfl)
theorem dX16_one_54 : decode cX16_one 54 = .ok (.aload_n 0, 1) := dk_42 (dk_at dksX16_one_2 7 rfl rfl)
theorem dX16_one_55 : decode cX16_one 55 = .ok (.invokevirtual 67, 3) := dk_182 0 67 (dk_at dksX16_one_2 8 rfl rfl)
theorem dX16_one_58 : decode cX16_one 58 = .ok (.istore 6, 2) := dk_54 6 (dk_at dksX16_one_2 11 rfl rfl)
theorem dX16_one_60 : decode cX16_one 60 = .ok (.aload_n 0, 1) := dk_42 (dk_at dksX16_one_2 13 rfl rfl)
theorem dX16_one_61 : decode cX16_one 61 = .ok (.iload_n 1, 1) := dk_27 (dk_at dksX16_one_2 14 rfl rfl)
theorem dX16_one_62 : decode cX16_one 62 = .ok (.ifCond .ne 27, 3) := dk_154 0 27 (dk_at dksX16_one_2 15 rfl rfl)
theorem dX16_one_65 : decode cX16_one 65 = .ok (.iload_n 2, 1) := dk_28 (dk_at dksX16_one_2 18 rfl rfl)
theorem dX16_one_66 : decode cX16_one 66 = .ok (.ifCond .ne 23, 3) := dk_154 0 23 (dk_at dksX16_one_2 19 rfl rfl)
theorem dX16_one_69 : decode cX16_one 69 = .ok (.iload_n 3, 1) := dk_29 (dk_at dksX16_one_2 22 rfl rfl)
theorem dX16_one_70 : decode cX16_one 70 = .ok (.ifCond .ne 19, 3) := dk_154 0 19 (dk_at dksX16_one_3 0 rfl rfl)
theorem dX16_one_73 : decode cX16_one 73 = .ok (.iload 4, 2) := dk_21 4 (dk_at dksX16_one_3 3 rfl rfl)
theorem dX16_one_75 : decode cX16_one 75 = .ok (.ifCond .ne 14, 3) := dk_154 0 14 (dk_at dksX16_one_3 5 rfl rfl)
theorem dX16_one_78 : decode cX16_one 78 = .ok (.iload 5, 2) := dk_21 5 (dk_at dksX16_one_3 8 rfl rfl)
theorem dX16_one_80 : decode cX16_one 80 = .ok (.ifCond .ne 9, 3) := dk_154 0 9 (dk_at dksX16_one_3 10 rfl rfl)
theorem dX16_one_83 : decode cX16_one 83 = .ok (.iload 6, 2) := dk_21 6 (dk_at dksX16_one_3 13 rfl rfl)
theorem dX16_one_85 : decode cX16_one 85 = .ok (.iconst (-1), 1) := dk_2 (dk_at dksX16_one_3 15 rfl rfl)
theorem dX16_one_86 : decode cX16_one 86 = .ok (.if_icmp .eq 7, 3) := dk_159 0 7 (dk_at dksX16_one_3 16 rfl rfl)
theorem dX16_one_89 : decode cX16_one 89 = .ok (.iconst 1, 1) := dk_4 (dk_at dksX16_one_3 19 rfl rfl)
theorem dX16_one_90 : decode cX16_one 90 = .ok (.goto 4, 3) := dk_167 0 4 (dk_at dksX16_one_3 20 rfl rfl)
theorem dX16_one_93 : decode cX16_one 93 = .ok (.iconst 0, 1) := dk_3 (dk_at dksX16_one_3 23 rfl rfl)
theorem dX16_one_94 : decode cX16_one 94 = .ok (.iconst 1, 1) := dk_4 (dk_at dksX16_one_4 0 rfl rfl)
theorem dX16_one_95 : decode cX16_one 95 = .ok (.invokevirtual 27, 3) := dk_182 0 27 (dk_at dksX16_one_4 1 rfl rfl)
theorem dX16_one_98 : decode cX16_one 98 = .ok (.aload_n 0, 1) := dk_42 (dk_at dksX16_one_4 4 rfl rfl)
theorem dX16_one_99 : decode cX16_one 99 = .ok (.aload_n 0, 1) := dk_42 (dk_at dksX16_one_4 5 rfl rfl)
theorem dX16_one_100 : decode cX16_one 100 = .ok (.getfield 71, 3) := dk_180 0 71 (dk_at dksX16_one_4 6 rfl rfl)
theorem dX16_one_103 : decode cX16_one 103 = .ok (.bipush 20, 2) := dk_16 20 (dk_at dksX16_one_4 9 rfl rfl)
theorem dX16_one_105 : decode cX16_one 105 = .ok (.if_icmp .ge 16, 3) := dk_162 0 16 (dk_at dksX16_one_4 11 rfl rfl)
theorem dX16_one_108 : decode cX16_one 108 = .ok (.aload_n 0, 1) := dk_42 (dk_at dksX16_one_4 14 rfl rfl)
theorem dX16_one_109 : decode cX16_one 109 = .ok (.getfield 74, 3) := dk_180 0 74 (dk_at dksX16_one_4 15 rfl rfl)
theorem dX16_one_112 : decode cX16_one 112 = .ok (.bipush 8, 2) := dk_16 8 (dk_at dksX16_one_4 18 rfl rfl)
theorem dX16_one_114 : decode cX16_one 114 = .ok (.if_icmp .ge 7, 3) := dk_162 0 7 (dk_at dksX16_one_4 20 rfl rfl)
theorem dX16_one_117 : decode cX16_one 117 = .ok (.iconst 1, 1) := dk_4 (dk_at dksX16_one_4 23 rfl rfl)
theorem dX16_one_118 : decode cX16_one 118 = .ok (.goto 4, 3) := dk_167 0 4 (dk_at dksX16_one_5 0 rfl rfl)
theorem dX16_one_121 : decode cX16_one 121 = .ok (.iconst 0, 1) := dk_3 (dk_at dksX16_one_5 3 rfl rfl)
theorem dX16_one_122 : decode cX16_one 122 = .ok (.iconst 4, 1) := dk_7 (dk_at dksX16_one_5 4 rfl rfl)
theorem dX16_one_123 : decode cX16_one 123 = .ok (.invokevirtual 27, 3) := dk_182 0 27 (dk_at dksX16_one_5 5 rfl rfl)
theorem dX16_one_126 : decode cX16_one 126 = .ok (.aload_n 0, 1) := dk_42 (dk_at dksX16_one_5 8 rfl rfl)
theorem dX16_one_127 : decode cX16_one 127 = .ok (.dup, 1) := dk_89 (dk_at dksX16_one_5 9 rfl rfl)
theorem dX16_one_128 : decode cX16_one 128 = .ok (.getfield 71, 3) := dk_180 0 71 (dk_at dksX16_one_5 10 rfl rfl)
theorem dX16_one_131 : decode cX16_one 131 = .ok (.iconst 1, 1) := dk_4 (dk_at dksX16_one_5 13 rfl rfl)
theorem dX16_one_132 : decode cX16_one 132 = .ok (.iadd, 1) := dk_96 (dk_at dksX16_one_5 14 rfl rfl)
theorem dX16_one_133 : decode cX16_one 133 = .ok (.putfield 71, 3) := dk_181 0 71 (dk_at dksX16_one_5 15 rfl rfl)
theorem dX16_one_136 : decode cX16_one 136 = .ok (.aload_n 0, 1) := dk_42 (dk_at dksX16_one_5 18 rfl rfl)
theorem dX16_one_137 : decode cX16_one 137 = .ok (.dup, 1) := dk_89 (dk_at dksX16_one_5 19 rfl rfl)
theorem dX16_one_138 : decode cX16_one 138 = .ok (.getfield 74, 3) := dk_180 0 74 (dk_at dksX16_one_5 20 rfl rfl)
theorem dX16_one_141 : decode cX16_one 141 = .ok (.iconst 1, 1) := dk_4 (dk_at dksX16_one_5 23 rfl rfl)
theorem dX16_one_142 : decode cX16_one 142 = .ok (.iadd, 1) := dk_96 (dk_at dksX16_one_6 0 rfl rfl)
theorem dX16_one_143 : decode cX16_one 143 = .ok (.putfield 74, 3) := dk_181 0 74 (dk_at dksX16_one_6 1 rfl rfl)
theorem dX16_one_146 : decode cX16_one 146 = .ok (.aload_n 0, 1) := dk_42 (dk_at dksX16_one_6 4 rfl rfl)
theorem dX16_one_147 : decode cX16_one 147 = .ok (.invokevirtual 15, 3) := dk_182 0 15 (dk_at dksX16_one_6 5 rfl rfl)
theorem dX16_one_150 : decode cX16_one 150 = .ok (.iload_n 1, 1) := dk_27 (dk_at dksX16_one_6 8 rfl rfl)
theorem dX16_one_151 : decode cX16_one 151 = .ok (.ifCond .eq 10, 3) := dk_153 0 10 (dk_at dksX16_one_6 9 rfl rfl)
theorem dX16_one_154 : decode cX16_one 154 = .ok (.aload_n 0, 1) := dk_42 (dk_at dksX16_one_6 12 rfl rfl)
theorem dX16_one_155 : decode cX16_one 155 = .ok (.invokevirtual 77, 3) := dk_182 0 77 (dk_at dksX16_one_6 13 rfl rfl)
theorem dX16_one_158 : decode cX16_one 158 = .ok (.goto 71, 3) := dk_167 0 71 (dk_at dksX16_one_6 16 rfl rfl)
theorem dX16_one_161 : decode cX16_one 161 = .ok (.iload_n 2, 1) := dk_28 (dk_at dksX16_one_6 19 rfl rfl)
theorem dX16_one_162 : decode cX16_one 162 = .ok (.ifCond .eq 17, 3) := dk_153 0 17 (dk_at dksX16_one_6 20 rfl rfl)
theorem dX16_one_165 : decode cX16_one 165 = .ok (.new 80, 3) := dk_187 0 80 (dk_at dksX16_one_7 0 rfl rfl)
theorem dX16_one_168 : decode cX16_one 168 = .ok (.dup, 1) := dk_89 (dk_at dksX16_one_7 3 rfl rfl)
theorem dX16_one_169 : decode cX16_one 169 = .ok (.aload_n 0, 1) := dk_42 (dk_at dksX16_one_7 4 rfl rfl)
theorem dX16_one_170 : decode cX16_one 170 = .ok (.invokevirtual 44, 3) := dk_182 0 44 (dk_at dksX16_one_7 5 rfl rfl)
theorem dX16_one_173 : decode cX16_one 173 = .ok (.invokespecial 82, 3) := dk_183 0 82 (dk_at dksX16_one_7 8 rfl rfl)
theorem dX16_one_176 : decode cX16_one 176 = .ok (.goto 53, 3) := dk_167 0 53 (dk_at dksX16_one_7 11 rfl rfl)
theorem dX16_one_179 : decode cX16_one 179 = .ok (.iload_n 3, 1) := dk_29 (dk_at dksX16_one_7 14 rfl rfl)
theorem dX16_one_180 : decode cX16_one 180 = .ok (.ifCond .eq 13, 3) := dk_153 0 13 (dk_at dksX16_one_7 15 rfl rfl)
theorem dX16_one_183 : decode cX16_one 183 = .ok (.new 85, 3) := dk_187 0 85 (dk_at dksX16_one_7 18 rfl rfl)
theorem dX16_one_186 : decode cX16_one 186 = .ok (.dup, 1) := dk_89 (dk_at dksX16_one_7 21 rfl rfl)
theorem dX16_one_187 : decode cX16_one 187 = .ok (.invokespecial 87, 3) := dk_183 0 87 (dk_at dksX16_one_8 0 rfl rfl)
theorem dX16_one_190 : decode cX16_one 190 = .ok (.goto 39, 3) := dk_167 0 39 (dk_at dksX16_one_8 3 rfl rfl)
theorem dX16_one_193 : decode cX16_one 193 = .ok (.iload 4, 2) := dk_21 4 (dk_at dksX16_one_8 6 rfl rfl)
theorem dX16_one_195 : decode cX16_one 195 = .ok (.ifCond .ne 8, 3) := dk_154 0 8 (dk_at dksX16_one_8 8 rfl rfl)
theorem dX16_one_198 : decode cX16_one 198 = .ok (.iload 5, 2) := dk_21 5 (dk_at dksX16_one_8 11 rfl rfl)
theorem dX16_one_200 : decode cX16_one 200 = .ok (.ifCond .eq 23, 3) := dk_153 0 23 (dk_at dksX16_one_8 13 rfl rfl)
theorem dX16_one_203 : decode cX16_one 203 = .ok (.new 89, 3) := dk_187 0 89 (dk_at dksX16_one_8 16 rfl rfl)
theorem dX16_one_206 : decode cX16_one 206 = .ok (.dup, 1) := dk_89 (dk_at dksX16_one_8 19 rfl rfl)
theorem dX16_one_207 : decode cX16_one 207 = .ok (.aload_n 0, 1) := dk_42 (dk_at dksX16_one_8 20 rfl rfl)
theorem dX16_one_208 : decode cX16_one 208 = .ok (.aload_n 0, 1) := dk_42 (dk_at dksX16_one_8 21 rfl rfl)
theorem dX16_one_209 : decode cX16_one 209 = .ok (.getfield 9, 3) := dk_180 0 9 (dk_at dksX16_one_9 0 rfl rfl)
theorem dX16_one_212 : decode cX16_one 212 = .ok (.invokevirtual 91, 3) := dk_182 0 91 (dk_at dksX16_one_9 3 rfl rfl)
theorem dX16_one_215 : decode cX16_one 215 = .ok (.iload 4, 2) := dk_21 4 (dk_at dksX16_one_9 6 rfl rfl)
theorem dX16_one_217 : decode cX16_one 217 = .ok (.invokespecial 95, 3) := dk_183 0 95 (dk_at dksX16_one_9 8 rfl rfl)
theorem dX16_one_220 : decode cX16_one 220 = .ok (.goto 9, 3) := dk_167 0 9 (dk_at dksX16_one_9 11 rfl rfl)
theorem dX16_one_223 : decode cX16_one 223 = .ok (.aload_n 0, 1) := dk_42 (dk_at dksX16_one_9 14 rfl rfl)
theorem dX16_one_224 : decode cX16_one 224 = .ok (.iload 6, 2) := dk_21 6 (dk_at dksX16_one_9 15 rfl rfl)
theorem dX16_one_226 : decode cX16_one 226 = .ok (.invokevirtual 98, 3) := dk_182 0 98 (dk_at dksX16_one_9 17 rfl rfl)
theorem dX16_one_229 : decode cX16_one 229 = .ok (.astore 7, 2) := dk_58 7 (dk_at dksX16_one_9 20 rfl rfl)
theorem dX16_one_231 : decode cX16_one 231 = .ok (.aload_n 0, 1) := dk_42 (dk_at dksX16_one_9 22 rfl rfl)
theorem dX16_one_232 : decode cX16_one 232 = .ok (.dup, 1) := dk_89 (dk_at dksX16_one_9 23 rfl rfl)
theorem dX16_one_233 : decode cX16_one 233 = .ok (.getfield 74, 3) := dk_180 0 74 (dk_at dksX16_one_10 0 rfl rfl)
theorem dX16_one_236 : decode cX16_one 236 = .ok (.iconst 1, 1) := dk_4 (dk_at dksX16_one_10 3 rfl rfl)
theorem dX16_one_237 : decode cX16_one 237 = .ok (.isub, 1) := dk_100 (dk_at dksX16_one_10 4 rfl rfl)
theorem dX16_one_238 : decode cX16_one 238 = .ok (.putfield 74, 3) := dk_181 0 74 (dk_at dksX16_one_10 5 rfl rfl)
theorem dX16_one_241 : decode cX16_one 241 = .ok (.aload 7, 2) := dk_25 7 (dk_at dksX16_one_10 8 rfl rfl)
theorem dX16_one_243 : decode cX16_one 243 = .ok (.areturn, 1) := dk_176 (dk_at dksX16_one_10 10 rfl rfl)
abbrev cX16_numbered : ByteArray := prog_17_method_5_code
def yX16_numbered : MethodName := ⟨RX16, "numbered", "()I"⟩
def dkwX16_numbered_2 : List UInt8 := [153, 0, 7, 6, 167, 0, 4, 2, 172]
abbrev dktX16_numbered_2 : List UInt8 := dkwX16_numbered_2 ++ []
def dkwX16_numbered_1 : List UInt8 := [167, 0, 30, 42, 18, 52, 182, 0, 35, 153, 0, 7, 5, 167, 0, 17, 42, 18, 54, 182, 0, 35]
abbrev dktX16_numbered_1 : List UInt8 := dkwX16_numbered_1 ++ dktX16_numbered_2
def dkwX16_numbered_0 : List UInt8 := [42, 18, 48, 182, 0, 35, 153, 0, 7, 3, 167, 0, 43, 42, 18, 50, 182, 0, 35, 153, 0, 7, 4]
abbrev dktX16_numbered_0 : List UInt8 := dkwX16_numbered_0 ++ dktX16_numbered_1
theorem dksX16_numbered_0 : cX16_numbered.data.toList.drop 0 = dktX16_numbered_0 := by decide +kernel
theorem dksX16_numbered_1 : cX16_numbered.data.toList.drop 23 = dktX16_numbered_1 := dk_seg dksX16_numbered_0 23 rfl rfl
theorem dksX16_numbered_2 : cX16_numbered.data.toList.drop 45 = dktX16_numbered_2 := dk_seg dksX16_numbered_1 22 rfl rfl
theorem dX16_numbered_0 : decode cX16_numbered 0 = .ok (.aload_n 0, 1) := dk_42 (dk_at dksX16_numbered_0 0 rfl rfl)
theorem dX16_numbered_1 : decode cX16_numbered 1 = .ok (.ldc 48, 2) := dk_18 48 (dk_at dksX16_numbered_0 1 rfl rfl)
theorem dX16_numbered_3 : decode cX16_numbered 3 = .ok (.invokevirtual 35, 3) := dk_182 0 35 (dk_at dksX16_numbered_0 3 rfl rfl)
theorem dX16_numbered_6 : decode cX16_numbered 6 = .ok (.ifCond .eq 7, 3) := dk_153 0 7 (dk_at dksX16_numbered_0 6 rfl rfl)
theorem dX16_numbered_9 : decode cX16_numbered 9 = .ok (.iconst 0, 1) := dk_3 (dk_at dksX16_numbered_0 9 rfl rfl)
theorem dX16_numbered_10 : decode cX16_numbered 10 = .ok (.goto 43, 3) := dk_167 0 43 (dk_at dksX16_numbered_0 10 rfl rfl)
theorem dX16_numbered_13 : decode cX16_numbered 13 = .ok (.aload_n 0, 1) := dk_42 (dk_at dksX16_numbered_0 13 rfl rfl)
theorem dX16_numbered_14 : decode cX16_numbered 14 = .ok (.ldc 50, 2) := dk_18 50 (dk_at dksX16_numbered_0 14 rfl rfl)
theorem dX16_numbered_16 : decode cX16_numbered 16 = .ok (.invokevirtual 35, 3) := dk_182 0 35 (dk_at dksX16_numbered_0 16 rfl rfl)
theorem dX16_numbered_19 : decode cX16_numbered 19 = .ok (.ifCond .eq 7, 3) := dk_153 0 7 (dk_at dksX16_numbered_0 19 rfl rfl)
theorem dX16_numbered_22 : decode cX16_numbered 22 = .ok (.iconst 1, 1) := dk_4 (dk_at dksX16_numbered_0 22 rfl rfl)
theorem dX16_numbered_23 : decode cX16_numbered 23 = .ok (.goto 30, 3) := dk_167 0 30 (dk_at dksX16_numbered_1 0 rfl rfl)
theorem dX16_numbered_26 : decode cX16_numbered 26 = .ok (.aload_n 0, 1) := dk_42 (dk_at dksX16_numbered_1 3 rfl rfl)
theorem dX16_numbered_27 : decode cX16_numbered 27 = .ok (.ldc 52, 2) := dk_18 52 (dk_at dksX16_numbered_1 4 rfl rfl)
theorem dX16_numbered_29 : decode cX16_numbered 29 = .ok (.invokevirtual 35, 3) := dk_182 0 35 (dk_at dksX16_numbered_1 6 rfl rfl)
theorem dX16_numbered_32 : decode cX16_numbered 32 = .ok (.ifCond .eq 7, 3) := dk_153 0 7 (dk_at dksX16_numbered_1 9 rfl rfl)
theorem dX16_numbered_35 : decode cX16_numbered 35 = .ok (.iconst 2, 1) := dk_5 (dk_at dksX16_numbered_1 12 rfl rfl)
theorem dX16_numbered_36 : decode cX16_numbered 36 = .ok (.goto 17, 3) := dk_167 0 17 (dk_at dksX16_numbered_1 13 rfl rfl)
theorem dX16_numbered_39 : decode cX16_numbered 39 = .ok (.aload_n 0, 1) := dk_42 (dk_at dksX16_numbered_1 16 rfl rfl)
theorem dX16_numbered_40 : decode cX16_numbered 40 = .ok (.ldc 54, 2) := dk_18 54 (dk_at dksX16_numbered_1 17 rfl rfl)
theorem dX16_numbered_42 : decode cX16_numbered 42 = .ok (.invokevirtual 35, 3) := dk_182 0 35 (dk_at dksX16_numbered_1 19 rfl rfl)
theorem dX16_numbered_45 : decode cX16_numbered 45 = .ok (.ifCond .eq 7, 3) := dk_153 0 7 (dk_at dksX16_numbered_2 0 rfl rfl)
theorem dX16_numbered_48 : decode cX16_numbered 48 = .ok (.iconst 3, 1) := dk_6 (dk_at dksX16_numbered_2 3 rfl rfl)
theorem dX16_numbered_49 : decode cX16_numbered 49 = .ok (.goto 4, 3) := dk_167 0 4 (dk_at dksX16_numbered_2 4 rfl rfl)
theorem dX16_numbered_52 : decode cX16_numbered 52 = .ok (.iconst (-1), 1) := dk_2 (dk_at dksX16_numbered_2 7 rfl rfl)
theorem dX16_numbered_53 : decode cX16_numbered 53 = .ok (.ireturn, 1) := dk_172 (dk_at dksX16_numbered_2 8 rfl rfl)
abbrev cX16_bracket : ByteArray := prog_17_method_7_code
def yX16_bracket : MethodName := ⟨RX16, "bracket", "()LSevenTable$Cond;"⟩
def dkwX16_bracket_1 : List UInt8 := [4, 167, 0, 4, 3, 4, 182, 0, 27, 42, 182, 0, 15, 43, 176]
abbrev dktX16_bracket_1 : List UInt8 := dkwX16_bracket_1 ++ []
def dkwX16_bracket_0 : List UInt8 := [42, 182, 0, 19, 76, 42, 42, 180, 0, 23, 16, 6, 160, 0, 16, 42, 180, 0, 56, 16, 41, 160, 0, 7]
abbrev dktX16_bracket_0 : List UInt8 := dkwX16_bracket_0 ++ dktX16_bracket_1
theorem dksX16_bracket_0 : cX16_bracket.data.toList.drop 0 = dktX16_bracket_0 := by decide +kernel
theorem dksX16_bracket_1 : cX16_bracket.data.toList.drop 24 = dktX16_bracket_1 := dk_seg dksX16_bracket_0 24 rfl rfl
theorem dX16_bracket_0 : decode cX16_bracket 0 = .ok (.aload_n 0, 1) := dk_42 (dk_at dksX16_bracket_0 0 rfl rfl)
theorem dX16_bracket_1 : decode cX16_bracket 1 = .ok (.invokevirtual 19, 3) := dk_182 0 19 (dk_at dksX16_bracket_0 1 rfl rfl)
theorem dX16_bracket_4 : decode cX16_bracket 4 = .ok (.astore_n 1, 1) := dk_76 (dk_at dksX16_bracket_0 4 rfl rfl)
theorem dX16_bracket_5 : decode cX16_bracket 5 = .ok (.aload_n 0, 1) := dk_42 (dk_at dksX16_bracket_0 5 rfl rfl)
theorem dX16_bracket_6 : decode cX16_bracket 6 = .ok (.aload_n 0, 1) := dk_42 (dk_at dksX16_bracket_0 6 rfl rfl)
theorem dX16_bracket_7 : decode cX16_bracket 7 = .ok (.getfield 23, 3) := dk_180 0 23 (dk_at dksX16_bracket_0 7 rfl rfl)
theorem dX16_bracket_10 : decode cX16_bracket 10 = .ok (.bipush 6, 2) := dk_16 6 (dk_at dksX16_bracket_0 10 rfl rfl)
theorem dX16_bracket_12 : decode cX16_bracket 12 = .ok (.if_icmp .ne 16, 3) := dk_160 0 16 (dk_at dksX16_bracket_0 12 rfl rfl)
theorem dX16_bracket_15 : decode cX16_bracket 15 = .ok (.aload_n 0, 1) := dk_42 (dk_at dksX16_bracket_0 15 rfl rfl)
theorem dX16_bracket_16 : decode cX16_bracket 16 = .ok (.getfield 56, 3) := dk_180 0 56 (dk_at dksX16_bracket_0 16 rfl rfl)
theorem dX16_bracket_19 : decode cX16_bracket 19 = .ok (.bipush 41, 2) := dk_16 41 (dk_at dksX16_bracket_0 19 rfl rfl)
theorem dX16_bracket_21 : decode cX16_bracket 21 = .ok (.if_icmp .ne 7, 3) := dk_160 0 7 (dk_at dksX16_bracket_0 21 rfl rfl)
theorem dX16_bracket_24 : decode cX16_bracket 24 = .ok (.iconst 1, 1) := dk_4 (dk_at dksX16_bracket_1 0 rfl rfl)
theorem dX16_bracket_25 : decode cX16_bracket 25 = .ok (.goto 4, 3) := dk_167 0 4 (dk_at dksX16_bracket_1 1 rfl rfl)
theorem dX16_bracket_28 : decode cX16_bracket 28 = .ok (.iconst 0, 1) := dk_3 (dk_at dksX16_bracket_1 4 rfl rfl)
theorem dX16_bracket_29 : decode cX16_bracket 29 = .ok (.iconst 1, 1) := dk_4 (dk_at dksX16_bracket_1 5 rfl rfl)
theorem dX16_bracket_30 : decode cX16_bracket 30 = .ok (.invokevirtual 27, 3) := dk_182 0 27 (dk_at dksX16_bracket_1 6 rfl rfl)
theorem dX16_bracket_33 : decode cX16_bracket 33 = .ok (.aload_n 0, 1) := dk_42 (dk_at dksX16_bracket_1 9 rfl rfl)
theorem dX16_bracket_34 : decode cX16_bracket 34 = .ok (.invokevirtual 15, 3) := dk_182 0 15 (dk_at dksX16_bracket_1 10 rfl rfl)
theorem dX16_bracket_37 : decode cX16_bracket 37 = .ok (.aload_n 1, 1) := dk_43 (dk_at dksX16_bracket_1 13 rfl rfl)
theorem dX16_bracket_38 : decode cX16_bracket 38 = .ok (.areturn, 1) := dk_176 (dk_at dksX16_bracket_1 14 rfl rfl)
abbrev cX16_than : ByteArray := prog_17_method_8_code
def yX16_than : MethodName := ⟨RX16, "than", "(I)LSevenTable$Cond;"⟩
def dkwX16_than_2 : List UInt8 := [187, 0, 102, 89, 27, 28, 42, 3, 17, 3, 231, 182, 0, 104, 183, 0, 108, 176]
abbrev dktX16_than_2 : List UInt8 := dkwX16_than_2 ++ []
def dkwX16_than_1 : List UInt8 := [16, 41, 159, 0, 7, 4, 167, 0, 4, 3, 4, 182, 0, 27, 42, 180, 0, 56, 61, 42, 182, 0, 15]
abbrev dktX16_than_1 : List UInt8 := dkwX16_than_1 ++ dktX16_than_2
def dkwX16_than_0 : List UInt8 := [42, 42, 180, 0, 23, 16, 6, 160, 0, 25, 42, 180, 0, 56, 16, 40, 159, 0, 16, 42, 180, 0, 56]
abbrev dktX16_than_0 : List UInt8 := dkwX16_than_0 ++ dktX16_than_1
theorem dksX16_than_0 : cX16_than.data.toList.drop 0 = dktX16_than_0 := by decide +kernel
theorem dksX16_than_1 : cX16_than.data.toList.drop 23 = dktX16_than_1 := dk_seg dksX16_than_0 23 rfl rfl
theorem dksX16_than_2 : cX16_than.data.toList.drop 46 = dktX16_than_2 := dk_seg dksX16_than_1 23 rfl rfl
theorem dX16_than_0 : decode cX16_than 0 = .ok (.aload_n 0, 1) := dk_42 (dk_at dksX16_than_0 0 rfl rfl)
theorem dX16_than_1 : decode cX16_than 1 = .ok (.aload_n 0, 1) := dk_42 (dk_at dksX16_than_0 1 rfl rfl)
theorem dX16_than_2 : decode cX16_than 2 = .ok (.getfield 23, 3) := dk_180 0 23 (dk_at dksX16_than_0 2 rfl rfl)
theorem dX16_than_5 : decode cX16_than 5 = .ok (.bipush 6, 2) := dk_16 6 (dk_at dksX16_than_0 5 rfl rfl)
theorem dX16_than_7 : decode cX16_than 7 = .ok (.if_icmp .ne 25, 3) := dk_160 0 25 (dk_at dksX16_than_0 7 rfl rfl)
theorem dX16_than_10 : decode cX16_than 10 = .ok (.aload_n 0, 1) := dk_42 (dk_at dksX16_than_0 10 rfl rfl)
theorem dX16_than_11 : decode cX16_than 11 = .ok (.getfield 56, 3) := dk_180 0 56 (dk_at dksX16_than_0 11 rfl rfl)
theorem dX16_than_14 : decode cX16_than 14 = .ok (.bipush 40, 2) := dk_16 40 (dk_at dksX16_than_0 14 rfl rfl)
theorem dX16_than_16 : decode cX16_than 16 = .ok (.if_icmp .eq 16, 3) := dk_159 0 16 (dk_at dksX16_than_0 16 rfl rfl)
theorem dX16_than_19 : decode cX16_than 19 = .ok (.aload_n 0, 1) := dk_42 (dk_at dksX16_than_0 19 rfl rfl)
theorem dX16_than_20 : decode cX16_than 20 = .ok (.getfield 56, 3) := dk_180 0 56 (dk_at dksX16_than_0 20 rfl rfl)
theorem dX16_than_23 : decode cX16_than 23 = .ok (.bipush 41, 2) := dk_16 41 (dk_at dksX16_than_1 0 rfl rfl)
theorem dX16_than_25 : decode cX16_than 25 = .ok (.if_icmp .eq 7, 3) := dk_159 0 7 (dk_at dksX16_than_1 2 rfl rfl)
theorem dX16_than_28 : decode cX16_than 28 = .ok (.iconst 1, 1) := dk_4 (dk_at dksX16_than_1 5 rfl rfl)
theorem dX16_than_29 : decode cX16_than 29 = .ok (.goto 4, 3) := dk_167 0 4 (dk_at dksX16_than_1 6 rfl rfl)
theorem dX16_than_32 : decode cX16_than 32 = .ok (.iconst 0, 1) := dk_3 (dk_at dksX16_than_1 9 rfl rfl)
theorem dX16_than_33 : decode cX16_than 33 = .ok (.iconst 1, 1) := dk_4 (dk_at dksX16_than_1 10 rfl rfl)
theorem dX16_than_34 : decode cX16_than 34 = .ok (.invokevirtual 27, 3) := dk_182 0 27 (dk_at dksX16_than_1 11 rfl rfl)
theorem dX16_than_37 : decode cX16_than 37 = .ok (.aload_n 0, 1) := dk_42 (dk_at dksX16_than_1 14 rfl rfl)
theorem dX16_than_38 : decode cX16_than 38 = .ok (.getfield 56, 3) := dk_180 0 56 (dk_at dksX16_than_1 15 rfl rfl)
theorem dX16_than_41 : decode cX16_than 41 = .ok (.istore_n 2, 1) := dk_61 (dk_at dksX16_than_1 18 rfl rfl)
theorem dX16_than_42 : decode cX16_than 42 = .ok (.aload_n 0, 1) := dk_42 (dk_at dksX16_than_1 19 rfl rfl)
theorem dX16_than_43 : decode cX16_than 43 = .ok (.invokevirtual 15, 3) := dk_182 0 15 (dk_at dksX16_than_1 20 rfl rfl)
theorem dX16_than_46 : decode cX16_than 46 = .ok (.new 102, 3) := dk_187 0 102 (dk_at dksX16_than_2 0 rfl rfl)
theorem dX16_than_49 : decode cX16_than 49 = .ok (.dup, 1) := dk_89 (dk_at dksX16_than_2 3 rfl rfl)
theorem dX16_than_50 : decode cX16_than 50 = .ok (.iload_n 1, 1) := dk_27 (dk_at dksX16_than_2 4 rfl rfl)
theorem dX16_than_51 : decode cX16_than 51 = .ok (.iload_n 2, 1) := dk_28 (dk_at dksX16_than_2 5 rfl rfl)
theorem dX16_than_52 : decode cX16_than 52 = .ok (.aload_n 0, 1) := dk_42 (dk_at dksX16_than_2 6 rfl rfl)
theorem dX16_than_53 : decode cX16_than 53 = .ok (.iconst 0, 1) := dk_3 (dk_at dksX16_than_2 7 rfl rfl)
theorem dX16_than_54 : decode cX16_than 54 = .ok (.sipush 999, 3) := dk_17 3 231 (dk_at dksX16_than_2 8 rfl rfl)
theorem dX16_than_57 : decode cX16_than 57 = .ok (.invokevirtual 104, 3) := dk_182 0 104 (dk_at dksX16_than_2 11 rfl rfl)
theorem dX16_than_60 : decode cX16_than 60 = .ok (.invokespecial 108, 3) := dk_183 0 108 (dk_at dksX16_than_2 14 rfl rfl)
theorem dX16_than_63 : decode cX16_than 63 = .ok (.areturn, 1) := dk_176 (dk_at dksX16_than_2 17 rfl rfl)
theorem q151 : (Jvm.Cond.initialized "SevenTable$SentenceReader") ∈ lw_all := lw_g (lw_at lw_m1 34 rfl) rfl
theorem q626 : (Jvm.Cond.fieldLink "SevenTable$SentenceReader" (23 : Nat) "SevenTable$SentenceReader" "kind" "I") ∈ lw_all := lw_g (lw_at lw_m3 29 rfl) rfl
theorem q627 : (Jvm.Cond.sameField "SevenTable$SentenceReader" "SevenTable$Reader" "kind" "I") ∈ lw_all := lw_g (lw_at lw_m3 30 rfl) rfl
theorem q632 : (Jvm.Cond.fieldLink "SevenTable$SentenceReader" (56 : Nat) "SevenTable$SentenceReader" "sign" "I") ∈ lw_all := lw_g (lw_at lw_m3 35 rfl) rfl
theorem q633 : (Jvm.Cond.sameField "SevenTable$SentenceReader" "SevenTable$Reader" "sign" "I") ∈ lw_all := lw_g (lw_at lw_m3 36 rfl) rfl
theorem q972 : (Jvm.Cond.selects "SevenTable$SentenceReader" ({ cls := "SevenTable$Reader", name := "hold", desc := "(II)I" } : Jvm.MethodName) ({ cls := "SevenTable$Reader", name := "hold", desc := "(II)I" } : Jvm.MethodName)) ∈ lw_all := lw_g (lw_at lw_m4 135 rfl) rfl
theorem q1091 : (Jvm.Cond.selects "SevenTable$SentenceReader" ({ cls := "java/lang/Object", name := "equals", desc := "(Ljava/lang/Object;)Z" } : Jvm.MethodName) ({ cls := "java/lang/Object", name := "equals", desc := "(Ljava/lang/Object;)Z" } : Jvm.MethodName)) ∈ lw_all := lw_g (lw_at lw_m5 14 rfl) rfl
theorem q1136 : (Jvm.Cond.selects "SevenTable$SentenceReader" ({ cls := "java/lang/Object", name := "getClass", desc := "()Ljava/lang/Class;" } : Jvm.MethodName) ({ cls := "java/lang/Object", name := "getClass", desc := "()Ljava/lang/Class;" } : Jvm.MethodName)) ∈ lw_all := lw_g (lw_at lw_m5 59 rfl) rfl
theorem q1583 : (Jvm.Cond.instantiable "SevenTable$SentenceReader" (12 : Nat)) ∈ lw_all := lw_g (lw_at lw_m7 26 rfl) rfl
theorem q1585 : (Jvm.Cond.instanceMethod ({ cls := "SevenTable$SentenceReader", name := "<init>", desc := "([BILSevenTable$Table;)V" } : Jvm.MethodName)) ∈ lw_all := lw_g (lw_at lw_m7 28 rfl) rfl
theorem q1586 : (Jvm.Cond.code ({ cls := "SevenTable$SentenceReader", name := "<init>", desc := "([BILSevenTable$Table;)V" } : Jvm.MethodName) prog_17_method_1_code (4 : Nat) (Option.none : Option Jvm.ClassFile.FieldType)) ∈ lw_all := lw_g (lw_at lw_m7 29 rfl) rfl
theorem q1587 : (Jvm.Cond.methodLink "SevenTable$SentenceReader" (3 : Nat) ({ cls := "SevenTable$Reader", name := "<init>", desc := "([BII)V" } : Jvm.MethodName)) ∈ lw_all := lw_g (lw_at lw_m7 30 rfl) rfl
theorem q1588 : (Jvm.Cond.fieldLink "SevenTable$SentenceReader" (9 : Nat) "SevenTable$SentenceReader" "t" "LSevenTable$Table;") ∈ lw_all := lw_g (lw_at lw_m7 31 rfl) rfl
theorem q1589 : (Jvm.Cond.fieldLink "SevenTable$SentenceReader" (71 : Nat) "SevenTable$SentenceReader" "ones" "I") ∈ lw_all := lw_g (lw_at lw_m7 32 rfl) rfl
theorem q1591 : (Jvm.Cond.fieldLink "SevenTable$SentenceReader" (74 : Nat) "SevenTable$SentenceReader" "within" "I") ∈ lw_all := lw_g (lw_at lw_m7 34 rfl) rfl
theorem q1592 : (Jvm.Cond.laysFinal "SevenTable$SentenceReader" "SevenTable$SentenceReader" "t" "LSevenTable$Table;") ∈ lw_all := lw_g (lw_at lw_m7 35 rfl) rfl
theorem q1593 : (Jvm.Cond.soleField "SevenTable$SentenceReader" "t") ∈ lw_all := lw_g (lw_at lw_m7 36 rfl) rfl
theorem q1594 : (Jvm.Cond.lays "SevenTable$SentenceReader" "SevenTable$SentenceReader" "ones" "I") ∈ lw_all := lw_g (lw_at lw_m7 37 rfl) rfl
theorem q1595 : (Jvm.Cond.soleField "SevenTable$SentenceReader" "ones") ∈ lw_all := lw_g (lw_at lw_m7 38 rfl) rfl
theorem q1596 : (Jvm.Cond.lays "SevenTable$SentenceReader" "SevenTable$SentenceReader" "within" "I") ∈ lw_all := lw_g (lw_at lw_m7 39 rfl) rfl
theorem q1597 : (Jvm.Cond.soleField "SevenTable$SentenceReader" "within") ∈ lw_all := lw_g (lw_at lw_m7 40 rfl) rfl
theorem q1598 : (Jvm.Cond.laysFinal "SevenTable$SentenceReader" "SevenTable$Reader" "tape" "[B") ∈ lw_all := lw_g (lw_at lw_m7 41 rfl) rfl
theorem q1599 : (Jvm.Cond.laysFinal "SevenTable$SentenceReader" "SevenTable$Reader" "size" "I") ∈ lw_all := lw_g (lw_at lw_m7 42 rfl) rfl
theorem q1600 : (Jvm.Cond.laysFinal "SevenTable$SentenceReader" "SevenTable$Reader" "limit" "I") ∈ lw_all := lw_g (lw_at lw_m7 43 rfl) rfl
theorem q1601 : (Jvm.Cond.lays "SevenTable$SentenceReader" "SevenTable$Reader" "to" "I") ∈ lw_all := lw_g (lw_at lw_m7 44 rfl) rfl
theorem q1602 : (Jvm.Cond.lays "SevenTable$SentenceReader" "SevenTable$Reader" "kind" "I") ∈ lw_all := lw_g (lw_at lw_m7 45 rfl) rfl
theorem q1603 : (Jvm.Cond.lays "SevenTable$SentenceReader" "SevenTable$Reader" "from" "I") ∈ lw_all := lw_g (lw_at lw_m7 46 rfl) rfl
theorem q1604 : (Jvm.Cond.lays "SevenTable$SentenceReader" "SevenTable$Reader" "number" "I") ∈ lw_all := lw_g (lw_at lw_m7 47 rfl) rfl
theorem q1605 : (Jvm.Cond.lays "SevenTable$SentenceReader" "SevenTable$Reader" "sign" "I") ∈ lw_all := lw_g (lw_at lw_m7 48 rfl) rfl
theorem q1606 : (Jvm.Cond.lays "SevenTable$SentenceReader" "SevenTable$Reader" "word" "Ljava/lang/String;") ∈ lw_all := lw_g (lw_at lw_m7 49 rfl) rfl
theorem q1607 : (Jvm.Cond.superclass "SevenTable$SentenceReader" "SevenTable$Reader") ∈ lw_all := lw_g (lw_at lw_m7 50 rfl) rfl
theorem q1609 : (Jvm.Cond.instanceMethod ({ cls := "SevenTable$SentenceReader", name := "read", desc := "()LSevenTable$Cond;" } : Jvm.MethodName)) ∈ lw_all := lw_g (lw_at lw_m7 52 rfl) rfl
theorem q1610 : (Jvm.Cond.selects "SevenTable$SentenceReader" ({ cls := "SevenTable$SentenceReader", name := "read", desc := "()LSevenTable$Cond;" } : Jvm.MethodName) ({ cls := "SevenTable$SentenceReader", name := "read", desc := "()LSevenTable$Cond;" } : Jvm.MethodName)) ∈ lw_all := lw_g (lw_at lw_m7 53 rfl) rfl
theorem q1611 : (Jvm.Cond.code ({ cls := "SevenTable$SentenceReader", name := "read", desc := "()LSevenTable$Cond;" } : Jvm.MethodName) prog_17_method_2_code (2 : Nat) (Option.some (Jvm.ClassFile.FieldType.object "SevenTable$Cond"))) ∈ lw_all := lw_g (lw_at lw_m7 54 rfl) rfl
theorem q1612 : (Jvm.Cond.methodLink "SevenTable$SentenceReader" (15 : Nat) ({ cls := "SevenTable$SentenceReader", name := "go", desc := "()V" } : Jvm.MethodName)) ∈ lw_all := lw_g (lw_at lw_m7 55 rfl) rfl
theorem q1613 : (Jvm.Cond.sameMethod "SevenTable$SentenceReader" "SevenTable$Reader" "go" "()V") ∈ lw_all := lw_g (lw_at lw_m7 56 rfl) rfl
theorem q1614 : (Jvm.Cond.selects "SevenTable$SentenceReader" ({ cls := "SevenTable$SentenceReader", name := "go", desc := "()V" } : Jvm.MethodName) ({ cls := "SevenTable$Reader", name := "go", desc := "()V" } : Jvm.MethodName)) ∈ lw_all := lw_g (lw_at lw_m7 57 rfl) rfl
theorem q1615 : (Jvm.Cond.methodLink "SevenTable$SentenceReader" (19 : Nat) ({ cls := "SevenTable$SentenceReader", name := "or", desc := "()LSevenTable$Cond;" } : Jvm.MethodName)) ∈ lw_all := lw_g (lw_at lw_m7 58 rfl) rfl
theorem q1616 : (Jvm.Cond.privateMethod ({ cls := "SevenTable$SentenceReader", name := "or", desc := "()LSevenTable$Cond;" } : Jvm.MethodName)) ∈ lw_tbl := lw_at lw_m7 59 rfl
theorem q1617 : (Jvm.Cond.instanceMethod ({ cls := "SevenTable$SentenceReader", name := "or", desc := "()LSevenTable$Cond;" } : Jvm.MethodName)) ∈ lw_all := lw_g (lw_at lw_m7 60 rfl) rfl
theorem q1618 : (Jvm.Cond.code ({ cls := "SevenTable$SentenceReader", name := "or", desc := "()LSevenTable$Cond;" } : Jvm.MethodName) prog_17_method_3_code (2 : Nat) (Option.some (Jvm.ClassFile.FieldType.object "SevenTable$Cond"))) ∈ lw_all := lw_g (lw_at lw_m7 61 rfl) rfl
theorem q1619 : (Jvm.Cond.methodLink "SevenTable$SentenceReader" (31 : Nat) ({ cls := "SevenTable$SentenceReader", name := "and", desc := "()LSevenTable$Cond;" } : Jvm.MethodName)) ∈ lw_all := lw_g (lw_at lw_m7 62 rfl) rfl
theorem q1620 : (Jvm.Cond.privateMethod ({ cls := "SevenTable$SentenceReader", name := "and", desc := "()LSevenTable$Cond;" } : Jvm.MethodName)) ∈ lw_tbl := lw_at lw_m7 63 rfl
theorem q1621 : (Jvm.Cond.instanceMethod ({ cls := "SevenTable$SentenceReader", name := "and", desc := "()LSevenTable$Cond;" } : Jvm.MethodName)) ∈ lw_all := lw_g (lw_at lw_m7 64 rfl) rfl
theorem q1622 : (Jvm.Cond.code ({ cls := "SevenTable$SentenceReader", name := "and", desc := "()LSevenTable$Cond;" } : Jvm.MethodName) prog_17_method_4_code (2 : Nat) (Option.some (Jvm.ClassFile.FieldType.object "SevenTable$Cond"))) ∈ lw_all := lw_g (lw_at lw_m7 65 rfl) rfl
theorem q1623 : (Jvm.Cond.methodLink "SevenTable$SentenceReader" (44 : Nat) ({ cls := "SevenTable$SentenceReader", name := "one", desc := "()LSevenTable$Cond;" } : Jvm.MethodName)) ∈ lw_all := lw_g (lw_at lw_m7 66 rfl) rfl
theorem q1624 : (Jvm.Cond.privateMethod ({ cls := "SevenTable$SentenceReader", name := "one", desc := "()LSevenTable$Cond;" } : Jvm.MethodName)) ∈ lw_tbl := lw_at lw_m7 67 rfl
theorem q1625 : (Jvm.Cond.instanceMethod ({ cls := "SevenTable$SentenceReader", name := "one", desc := "()LSevenTable$Cond;" } : Jvm.MethodName)) ∈ lw_all := lw_g (lw_at lw_m7 68 rfl) rfl
theorem q1626 : (Jvm.Cond.code ({ cls := "SevenTable$SentenceReader", name := "one", desc := "()LSevenTable$Cond;" } : Jvm.MethodName) prog_17_method_6_code (8 : Nat) (Option.some (Jvm.ClassFile.FieldType.object "SevenTable$Cond"))) ∈ lw_all := lw_g (lw_at lw_m7 69 rfl) rfl
theorem q1627 : (Jvm.Cond.stringRef "SevenTable$SentenceReader" (59 : Nat) "not") ∈ lw_tbl := lw_at lw_m7 70 rfl
theorem q1628 : (Jvm.Cond.methodLink "SevenTable$SentenceReader" (35 : Nat) ({ cls := "SevenTable$SentenceReader", name := "is", desc := "(Ljava/lang/String;)Z" } : Jvm.MethodName)) ∈ lw_all := lw_g (lw_at lw_m7 71 rfl) rfl
theorem q1629 : (Jvm.Cond.sameMethod "SevenTable$SentenceReader" "SevenTable$Reader" "is" "(Ljava/lang/String;)Z") ∈ lw_all := lw_g (lw_at lw_m7 72 rfl) rfl
theorem q1630 : (Jvm.Cond.selects "SevenTable$SentenceReader" ({ cls := "SevenTable$SentenceReader", name := "is", desc := "(Ljava/lang/String;)Z" } : Jvm.MethodName) ({ cls := "SevenTable$Reader", name := "is", desc := "(Ljava/lang/String;)Z" } : Jvm.MethodName)) ∈ lw_all := lw_g (lw_at lw_m7 73 rfl) rfl
theorem q1631 : (Jvm.Cond.stringRef "SevenTable$SentenceReader" (61 : Nat) "book") ∈ lw_tbl := lw_at lw_m7 74 rfl
theorem q1632 : (Jvm.Cond.stringRef "SevenTable$SentenceReader" (63 : Nat) "known") ∈ lw_tbl := lw_at lw_m7 75 rfl
theorem q1633 : (Jvm.Cond.stringRef "SevenTable$SentenceReader" (65 : Nat) "held") ∈ lw_tbl := lw_at lw_m7 76 rfl
theorem q1634 : (Jvm.Cond.methodLink "SevenTable$SentenceReader" (67 : Nat) ({ cls := "SevenTable$SentenceReader", name := "numbered", desc := "()I" } : Jvm.MethodName)) ∈ lw_all := lw_g (lw_at lw_m7 77 rfl) rfl
theorem q1635 : (Jvm.Cond.privateMethod ({ cls := "SevenTable$SentenceReader", name := "numbered", desc := "()I" } : Jvm.MethodName)) ∈ lw_tbl := lw_at lw_m7 78 rfl
theorem q1636 : (Jvm.Cond.instanceMethod ({ cls := "SevenTable$SentenceReader", name := "numbered", desc := "()I" } : Jvm.MethodName)) ∈ lw_all := lw_g (lw_at lw_m7 79 rfl) rfl
theorem q1637 : (Jvm.Cond.code ({ cls := "SevenTable$SentenceReader", name := "numbered", desc := "()I" } : Jvm.MethodName) prog_17_method_5_code (1 : Nat) (Option.some Jvm.ClassFile.FieldType.int)) ∈ lw_all := lw_g (lw_at lw_m7 80 rfl) rfl
theorem q1638 : (Jvm.Cond.stringRef "SevenTable$SentenceReader" (48 : Nat) "hands") ∈ lw_tbl := lw_at lw_m7 81 rfl
theorem q1639 : (Jvm.Cond.stringRef "SevenTable$SentenceReader" (50 : Nat) "heaped") ∈ lw_tbl := lw_at lw_m7 82 rfl
theorem q1640 : (Jvm.Cond.stringRef "SevenTable$SentenceReader" (52 : Nat) "most") ∈ lw_tbl := lw_at lw_m7 83 rfl
theorem q1641 : (Jvm.Cond.stringRef "SevenTable$SentenceReader" (54 : Nat) "place") ∈ lw_tbl := lw_at lw_m7 84 rfl
theorem q1642 : (Jvm.Cond.methodLink "SevenTable$SentenceReader" (27 : Nat) ({ cls := "SevenTable$SentenceReader", name := "need", desc := "(ZI)V" } : Jvm.MethodName)) ∈ lw_all := lw_g (lw_at lw_m7 85 rfl) rfl
theorem q1643 : (Jvm.Cond.sameMethod "SevenTable$SentenceReader" "SevenTable$Reader" "need" "(ZI)V") ∈ lw_all := lw_g (lw_at lw_m7 86 rfl) rfl
theorem q1644 : (Jvm.Cond.selects "SevenTable$SentenceReader" ({ cls := "SevenTable$SentenceReader", name := "need", desc := "(ZI)V" } : Jvm.MethodName) ({ cls := "SevenTable$Reader", name := "need", desc := "(ZI)V" } : Jvm.MethodName)) ∈ lw_all := lw_g (lw_at lw_m7 87 rfl) rfl
theorem q1645 : (Jvm.Cond.methodLink "SevenTable$SentenceReader" (77 : Nat) ({ cls := "SevenTable$SentenceReader", name := "bracket", desc := "()LSevenTable$Cond;" } : Jvm.MethodName)) ∈ lw_all := lw_g (lw_at lw_m7 88 rfl) rfl
theorem q1646 : (Jvm.Cond.privateMethod ({ cls := "SevenTable$SentenceReader", name := "bracket", desc := "()LSevenTable$Cond;" } : Jvm.MethodName)) ∈ lw_tbl := lw_at lw_m7 89 rfl
theorem q1647 : (Jvm.Cond.instanceMethod ({ cls := "SevenTable$SentenceReader", name := "bracket", desc := "()LSevenTable$Cond;" } : Jvm.MethodName)) ∈ lw_all := lw_g (lw_at lw_m7 90 rfl) rfl
theorem q1648 : (Jvm.Cond.code ({ cls := "SevenTable$SentenceReader", name := "bracket", desc := "()LSevenTable$Cond;" } : Jvm.MethodName) prog_17_method_7_code (2 : Nat) (Option.some (Jvm.ClassFile.FieldType.object "SevenTable$Cond"))) ∈ lw_all := lw_g (lw_at lw_m7 91 rfl) rfl
theorem q1649 : (Jvm.Cond.classLink "SevenTable$SentenceReader" (80 : Nat) "SevenTable$Not") ∈ lw_all := lw_g (lw_at lw_m7 92 rfl) rfl
theorem q1651 : (Jvm.Cond.methodLink "SevenTable$SentenceReader" (82 : Nat) ({ cls := "SevenTable$Not", name := "<init>", desc := "(LSevenTable$Cond;)V" } : Jvm.MethodName)) ∈ lw_all := lw_g (lw_at lw_m7 94 rfl) rfl
theorem q1662 : (Jvm.Cond.classLink "SevenTable$SentenceReader" (85 : Nat) "SevenTable$IsBook") ∈ lw_all := lw_g (lw_at lw_m7 105 rfl) rfl
theorem q1664 : (Jvm.Cond.methodLinkNest "SevenTable$SentenceReader" (87 : Nat) ({ cls := "SevenTable$IsBook", name := "<init>", desc := "()V" } : Jvm.MethodName) "SevenTable") ∈ lw_tbl := lw_at lw_m7 107 rfl
theorem q1669 : (Jvm.Cond.classLink "SevenTable$SentenceReader" (89 : Nat) "SevenTable$InHand") ∈ lw_all := lw_g (lw_at lw_m7 112 rfl) rfl
theorem q1671 : (Jvm.Cond.methodLink "SevenTable$SentenceReader" (91 : Nat) ({ cls := "SevenTable$SentenceReader", name := "person", desc := "(LSevenTable$Table;)I" } : Jvm.MethodName)) ∈ lw_all := lw_g (lw_at lw_m7 114 rfl) rfl
theorem q1672 : (Jvm.Cond.sameMethod "SevenTable$SentenceReader" "SevenTable$Reader" "person" "(LSevenTable$Table;)I") ∈ lw_all := lw_g (lw_at lw_m7 115 rfl) rfl
theorem q1673 : (Jvm.Cond.selects "SevenTable$SentenceReader" ({ cls := "SevenTable$SentenceReader", name := "person", desc := "(LSevenTable$Table;)I" } : Jvm.MethodName) ({ cls := "SevenTable$Reader", name := "person", desc := "(LSevenTable$Table;)I" } : Jvm.MethodName)) ∈ lw_all := lw_g (lw_at lw_m7 116 rfl) rfl
theorem q1674 : (Jvm.Cond.methodLink "SevenTable$SentenceReader" (95 : Nat) ({ cls := "SevenTable$InHand", name := "<init>", desc := "(IZ)V" } : Jvm.MethodName)) ∈ lw_all := lw_g (lw_at lw_m7 117 rfl) rfl
theorem q1685 : (Jvm.Cond.methodLink "SevenTable$SentenceReader" (98 : Nat) ({ cls := "SevenTable$SentenceReader", name := "than", desc := "(I)LSevenTable$Cond;" } : Jvm.MethodName)) ∈ lw_all := lw_g (lw_at lw_m7 128 rfl) rfl
theorem q1686 : (Jvm.Cond.privateMethod ({ cls := "SevenTable$SentenceReader", name := "than", desc := "(I)LSevenTable$Cond;" } : Jvm.MethodName)) ∈ lw_tbl := lw_at lw_m7 129 rfl
theorem q1687 : (Jvm.Cond.instanceMethod ({ cls := "SevenTable$SentenceReader", name := "than", desc := "(I)LSevenTable$Cond;" } : Jvm.MethodName)) ∈ lw_all := lw_g (lw_at lw_m7 130 rfl) rfl
theorem q1688 : (Jvm.Cond.code ({ cls := "SevenTable$SentenceReader", name := "than", desc := "(I)LSevenTable$Cond;" } : Jvm.MethodName) prog_17_method_8_code (3 : Nat) (Option.some (Jvm.ClassFile.FieldType.object "SevenTable$Cond"))) ∈ lw_all := lw_g (lw_at lw_m7 131 rfl) rfl
theorem q1689 : (Jvm.Cond.classLink "SevenTable$SentenceReader" (102 : Nat) "SevenTable$Than") ∈ lw_all := lw_g (lw_at lw_m7 132 rfl) rfl
theorem q1691 : (Jvm.Cond.methodLink "SevenTable$SentenceReader" (104 : Nat) ({ cls := "SevenTable$SentenceReader", name := "number", desc := "(II)I" } : Jvm.MethodName)) ∈ lw_all := lw_g (lw_at lw_m7 134 rfl) rfl
theorem q1692 : (Jvm.Cond.sameMethod "SevenTable$SentenceReader" "SevenTable$Reader" "number" "(II)I") ∈ lw_all := lw_g (lw_at lw_m7 135 rfl) rfl
theorem q1693 : (Jvm.Cond.selects "SevenTable$SentenceReader" ({ cls := "SevenTable$SentenceReader", name := "number", desc := "(II)I" } : Jvm.MethodName) ({ cls := "SevenTable$Reader", name := "number", desc := "(II)I" } : Jvm.MethodName)) ∈ lw_all := lw_g (lw_at lw_m7 136 rfl) rfl
theorem q1694 : (Jvm.Cond.methodLink "SevenTable$SentenceReader" (108 : Nat) ({ cls := "SevenTable$Than", name := "<init>", desc := "(III)V" } : Jvm.MethodName)) ∈ lw_all := lw_g (lw_at lw_m7 137 rfl) rfl
theorem q1708 : (Jvm.Cond.stringRef "SevenTable$SentenceReader" (47 : Nat) "and") ∈ lw_tbl := lw_at lw_m7 151 rfl
theorem q1709 : (Jvm.Cond.classLink "SevenTable$SentenceReader" (39 : Nat) "SevenTable$Two") ∈ lw_all := lw_g (lw_at lw_m7 152 rfl) rfl
theorem q1711 : (Jvm.Cond.methodLink "SevenTable$SentenceReader" (41 : Nat) ({ cls := "SevenTable$Two", name := "<init>", desc := "(LSevenTable$Cond;LSevenTable$Cond;Z)V" } : Jvm.MethodName)) ∈ lw_all := lw_g (lw_at lw_m7 154 rfl) rfl
theorem q1725 : (Jvm.Cond.stringRef "SevenTable$SentenceReader" (34 : Nat) "or") ∈ lw_tbl := lw_at lw_m7 168 rfl
theorem q2478 : (Jvm.Cond.selects "SevenTable$SentenceReader" ({ cls := "SevenTable$Reader", name := "need", desc := "(ZI)V" } : Jvm.MethodName) ({ cls := "SevenTable$Reader", name := "need", desc := "(ZI)V" } : Jvm.MethodName)) ∈ lw_all := lw_g (lw_at lw_m10 201 rfl) rfl
theorem q2482 : (Jvm.Cond.selects "SevenTable$SentenceReader" ({ cls := "SevenTable$Reader", name := "go", desc := "()V" } : Jvm.MethodName) ({ cls := "SevenTable$Reader", name := "go", desc := "()V" } : Jvm.MethodName)) ∈ lw_all := lw_g (lw_at lw_m10 205 rfl) rfl
theorem q2490 : (Jvm.Cond.selects "SevenTable$SentenceReader" ({ cls := "SevenTable$Reader", name := "isName", desc := "()Z" } : Jvm.MethodName) ({ cls := "SevenTable$Reader", name := "isName", desc := "()Z" } : Jvm.MethodName)) ∈ lw_all := lw_g (lw_at lw_m10 213 rfl) rfl
theorem q2511 : (Jvm.Cond.castable "SevenTable$SentenceReader" "java/lang/Object") ∈ lw_tbl := lw_at lw_m10 234 rfl
theorem in_X16 : ∀ w ∈ wsX160, w ∈ lw_all := lw_in wsX160 [1598, 1599, 1600, 1601, 1602, 1603, 1604, 1605, 1606, 1592, 1594, 1596] (by decide +kernel) (by decide +kernel)
/-! SevenTable$Cond -/
set_option maxRecDepth 100000
def RX17 : String := "SevenTable$Cond"
abbrev cX17_init : ByteArray := prog_3_method_1_code
def yX17_init : MethodName := ⟨RX17, "<init>", "()V"⟩
theorem dX17_init_0 : decode cX17_init 0 = .ok (.aload_n 0, 1) := by decide +kernel
theorem dX17_init_1 : decode cX17_init 1 = .ok (.invokespecial 1, 3) := by decide +kernel
theorem dX17_init_4 : decode cX17_init 4 = .ok (.return_, 1) := by decide +kernel
theorem q152 : (Jvm.Cond.initialized "SevenTable$Cond") ∈ lw_all := lw_g (lw_at lw_m1 35 rfl) rfl
theorem q1655 : (Jvm.Cond.instanceMethod ({ cls := "SevenTable$Cond", name := "<init>", desc := "()V" } : Jvm.MethodName)) ∈ lw_all := lw_g (lw_at lw_m7 98 rfl) rfl
theorem q1656 : (Jvm.Cond.code ({ cls := "SevenTable$Cond", name := "<init>", desc := "()V" } : Jvm.MethodName) prog_3_method_1_code (1 : Nat) (Option.none : Option Jvm.ClassFile.FieldType)) ∈ lw_all := lw_g (lw_at lw_m7 99 rfl) rfl
theorem q1657 : (Jvm.Cond.methodLink "SevenTable$Cond" (1 : Nat) ({ cls := "java/lang/Object", name := "<init>", desc := "()V" } : Jvm.MethodName)) ∈ lw_all := lw_g (lw_at lw_m7 100 rfl) rfl
theorem q1731 : (Jvm.Cond.declares ({ cls := "SevenTable$Cond", name := "holds", desc := "(LSevenTable$Game;I)Z" } : Jvm.MethodName)) ∈ lw_tbl := lw_at lw_m7 174 rfl
theorem q1732 : (Jvm.Cond.sameMethod "SevenTable$Cond" "SevenTable$Cond" "holds" "(LSevenTable$Game;I)Z") ∈ lw_all := lw_g (lw_at lw_m7 175 rfl) rfl
/-! SevenTable$Not -/
set_option maxRecDepth 100000
def RX18 : String := "SevenTable$Not"
def TX18 : u_T := fun k => match k with
  | _ => ("SevenTable$Not", "c", "LSevenTable$Cond;", true)
def tyX18 : Nat → FieldType := fun k => match k with
  | _ => .object "SevenTable$Cond"
abbrev wsX180 : List Cond := u_ws RX18 TX18 1
theorem nmX18 : ∀ a, a < 1 → ∀ b, b < 1 → a ≠ b → (TX18 a).2.1 ≠ (TX18 b).2.1 := by decide +kernel
theorem tyX18_ok : ∀ k, k < 1 → parseFieldDescriptor (TX18 k).2.2.1 = some (tyX18 k) := by decide +kernel
abbrev cX18_init : ByteArray := prog_14_method_1_code
def yX18_init : MethodName := ⟨RX18, "<init>", "(LSevenTable$Cond;)V"⟩
def dkwX18_init_0 : List UInt8 := [42, 183, 0, 1, 42, 43, 181, 0, 7, 177]
abbrev dktX18_init_0 : List UInt8 := dkwX18_init_0 ++ []
theorem dksX18_init_0 : cX18_init.data.toList.drop 0 = dktX18_init_0 := by decide +kernel
theorem dX18_init_0 : decode cX18_init 0 = .ok (.aload_n 0, 1) := dk_42 (dk_at dksX18_init_0 0 rfl rfl)
theorem dX18_init_1 : decode cX18_init 1 = .ok (.invokespecial 1, 3) := dk_183 0 1 (dk_at dksX18_init_0 1 rfl rfl)
theorem dX18_init_4 : decode cX18_init 4 = .ok (.aload_n 0, 1) := dk_42 (dk_at dksX18_init_0 4 rfl rfl)
theorem dX18_init_5 : decode cX18_init 5 = .ok (.aload_n 1, 1) := dk_43 (dk_at dksX18_init_0 5 rfl rfl)
theorem dX18_init_6 : decode cX18_init 6 = .ok (.putfield 7, 3) := dk_181 0 7 (dk_at dksX18_init_0 6 rfl rfl)
theorem dX18_init_9 : decode cX18_init 9 = .ok (.return_, 1) := dk_177 (dk_at dksX18_init_0 9 rfl rfl)
abbrev cX18_holds : ByteArray := prog_14_method_2_code
def yX18_holds : MethodName := ⟨RX18, "holds", "(LSevenTable$Game;I)Z"⟩
def dkwX18_holds_0 : List UInt8 := [42, 180, 0, 7, 43, 28, 182, 0, 13, 154, 0, 7, 4, 167, 0, 4, 3, 172]
abbrev dktX18_holds_0 : List UInt8 := dkwX18_holds_0 ++ []
theorem dksX18_holds_0 : cX18_holds.data.toList.drop 0 = dktX18_holds_0 := by decide +kernel
theorem dX18_holds_0 : decode cX18_holds 0 = .ok (.aload_n 0, 1) := dk_42 (dk_at dksX18_holds_0 0 rfl rfl)
theorem dX18_holds_1 : decode cX18_holds 1 = .ok (.getfield 7, 3) := dk_180 0 7 (dk_at dksX18_holds_0 1 rfl rfl)
theorem dX18_holds_4 : decode cX18_holds 4 = .ok (.aload_n 1, 1) := dk_43 (dk_at dksX18_holds_0 4 rfl rfl)
theorem dX18_holds_5 : decode cX18_holds 5 = .ok (.iload_n 2, 1) := dk_28 (dk_at dksX18_holds_0 5 rfl rfl)
theorem dX18_holds_6 : decode cX18_holds 6 = .ok (.invokevirtual 13, 3) := dk_182 0 13 (dk_at dksX18_holds_0 6 rfl rfl)
theorem dX18_holds_9 : decode cX18_holds 9 = .ok (.ifCond .ne 7, 3) := dk_154 0 7 (dk_at dksX18_holds_0 9 rfl rfl)
theorem dX18_holds_12 : decode cX18_holds 12 = .ok (.iconst 1, 1) := dk_4 (dk_at dksX18_holds_0 12 rfl rfl)
theorem dX18_holds_13 : decode cX18_holds 13 = .ok (.goto 4, 3) := dk_167 0 4 (dk_at dksX18_holds_0 13 rfl rfl)
theorem dX18_holds_16 : decode cX18_holds 16 = .ok (.iconst 0, 1) := dk_3 (dk_at dksX18_holds_0 16 rfl rfl)
theorem dX18_holds_17 : decode cX18_holds 17 = .ok (.ireturn, 1) := dk_172 (dk_at dksX18_holds_0 17 rfl rfl)
theorem q153 : (Jvm.Cond.initialized "SevenTable$Not") ∈ lw_all := lw_g (lw_at lw_m1 36 rfl) rfl
theorem q1089 : (Jvm.Cond.selects "SevenTable$Not" ({ cls := "java/lang/Object", name := "equals", desc := "(Ljava/lang/Object;)Z" } : Jvm.MethodName) ({ cls := "java/lang/Object", name := "equals", desc := "(Ljava/lang/Object;)Z" } : Jvm.MethodName)) ∈ lw_all := lw_g (lw_at lw_m5 12 rfl) rfl
theorem q1134 : (Jvm.Cond.selects "SevenTable$Not" ({ cls := "java/lang/Object", name := "getClass", desc := "()Ljava/lang/Class;" } : Jvm.MethodName) ({ cls := "java/lang/Object", name := "getClass", desc := "()Ljava/lang/Class;" } : Jvm.MethodName)) ∈ lw_all := lw_g (lw_at lw_m5 57 rfl) rfl
theorem q1650 : (Jvm.Cond.instantiable "SevenTable$Not" (1 : Nat)) ∈ lw_all := lw_g (lw_at lw_m7 93 rfl) rfl
theorem q1652 : (Jvm.Cond.instanceMethod ({ cls := "SevenTable$Not", name := "<init>", desc := "(LSevenTable$Cond;)V" } : Jvm.MethodName)) ∈ lw_all := lw_g (lw_at lw_m7 95 rfl) rfl
theorem q1653 : (Jvm.Cond.code ({ cls := "SevenTable$Not", name := "<init>", desc := "(LSevenTable$Cond;)V" } : Jvm.MethodName) prog_14_method_1_code (2 : Nat) (Option.none : Option Jvm.ClassFile.FieldType)) ∈ lw_all := lw_g (lw_at lw_m7 96 rfl) rfl
theorem q1654 : (Jvm.Cond.methodLinkNest "SevenTable$Not" (1 : Nat) ({ cls := "SevenTable$Cond", name := "<init>", desc := "()V" } : Jvm.MethodName) "SevenTable") ∈ lw_tbl := lw_at lw_m7 97 rfl
theorem q1658 : (Jvm.Cond.fieldLink "SevenTable$Not" (7 : Nat) "SevenTable$Not" "c" "LSevenTable$Cond;") ∈ lw_all := lw_g (lw_at lw_m7 101 rfl) rfl
theorem q1659 : (Jvm.Cond.laysFinal "SevenTable$Not" "SevenTable$Not" "c" "LSevenTable$Cond;") ∈ lw_all := lw_g (lw_at lw_m7 102 rfl) rfl
theorem q1660 : (Jvm.Cond.soleField "SevenTable$Not" "c") ∈ lw_all := lw_g (lw_at lw_m7 103 rfl) rfl
theorem q1661 : (Jvm.Cond.superclass "SevenTable$Not" "SevenTable$Cond") ∈ lw_all := lw_g (lw_at lw_m7 104 rfl) rfl
theorem q1739 : (Jvm.Cond.selects "SevenTable$Not" ({ cls := "SevenTable$Cond", name := "holds", desc := "(LSevenTable$Game;I)Z" } : Jvm.MethodName) ({ cls := "SevenTable$Not", name := "holds", desc := "(LSevenTable$Game;I)Z" } : Jvm.MethodName)) ∈ lw_all := lw_g (lw_at lw_m7 182 rfl) rfl
theorem q1740 : (Jvm.Cond.instanceMethod ({ cls := "SevenTable$Not", name := "holds", desc := "(LSevenTable$Game;I)Z" } : Jvm.MethodName)) ∈ lw_all := lw_g (lw_at lw_m7 183 rfl) rfl
theorem q1741 : (Jvm.Cond.code ({ cls := "SevenTable$Not", name := "holds", desc := "(LSevenTable$Game;I)Z" } : Jvm.MethodName) prog_14_method_2_code (3 : Nat) (Option.some Jvm.ClassFile.FieldType.boolean)) ∈ lw_all := lw_g (lw_at lw_m7 184 rfl) rfl
theorem q1742 : (Jvm.Cond.methodLink "SevenTable$Not" (13 : Nat) ({ cls := "SevenTable$Cond", name := "holds", desc := "(LSevenTable$Game;I)Z" } : Jvm.MethodName)) ∈ lw_all := lw_g (lw_at lw_m7 185 rfl) rfl
theorem q2512 : (Jvm.Cond.castable "SevenTable$Not" "java/lang/Object") ∈ lw_tbl := lw_at lw_m10 235 rfl
theorem in_X18 : ∀ w ∈ wsX180, w ∈ lw_all := lw_in wsX180 [1659] (by decide +kernel) (by decide +kernel)
/-! SevenTable$IsBook -/
set_option maxRecDepth 100000
def RX19 : String := "SevenTable$IsBook"
abbrev cX19_init : ByteArray := prog_8_method_1_code
def yX19_init : MethodName := ⟨RX19, "<init>", "()V"⟩
theorem dX19_init_0 : decode cX19_init 0 = .ok (.aload_n 0, 1) := by decide +kernel
theorem dX19_init_1 : decode cX19_init 1 = .ok (.invokespecial 3, 3) := by decide +kernel
theorem dX19_init_4 : decode cX19_init 4 = .ok (.return_, 1) := by decide +kernel
abbrev cX19_holds : ByteArray := prog_8_method_2_code
def yX19_holds : MethodName := ⟨RX19, "holds", "(LSevenTable$Game;I)Z"⟩
def dkwX19_holds_0 : List UInt8 := [43, 180, 0, 9, 28, 46, 2, 159, 0, 7, 4, 167, 0, 4, 3, 172]
abbrev dktX19_holds_0 : List UInt8 := dkwX19_holds_0 ++ []
theorem dksX19_holds_0 : cX19_holds.data.toList.drop 0 = dktX19_holds_0 := by decide +kernel
theorem dX19_holds_0 : decode cX19_holds 0 = .ok (.aload_n 1, 1) := dk_43 (dk_at dksX19_holds_0 0 rfl rfl)
theorem dX19_holds_1 : decode cX19_holds 1 = .ok (.getfield 9, 3) := dk_180 0 9 (dk_at dksX19_holds_0 1 rfl rfl)
theorem dX19_holds_4 : decode cX19_holds 4 = .ok (.iload_n 2, 1) := dk_28 (dk_at dksX19_holds_0 4 rfl rfl)
theorem dX19_holds_5 : decode cX19_holds 5 = .ok (.iaload, 1) := dk_46 (dk_at dksX19_holds_0 5 rfl rfl)
theorem dX19_holds_6 : decode cX19_holds 6 = .ok (.iconst (-1), 1) := dk_2 (dk_at dksX19_holds_0 6 rfl rfl)
theorem dX19_holds_7 : decode cX19_holds 7 = .ok (.if_icmp .eq 7, 3) := dk_159 0 7 (dk_at dksX19_holds_0 7 rfl rfl)
theorem dX19_holds_10 : decode cX19_holds 10 = .ok (.iconst 1, 1) := dk_4 (dk_at dksX19_holds_0 10 rfl rfl)
theorem dX19_holds_11 : decode cX19_holds 11 = .ok (.goto 4, 3) := dk_167 0 4 (dk_at dksX19_holds_0 11 rfl rfl)
theorem dX19_holds_14 : decode cX19_holds 14 = .ok (.iconst 0, 1) := dk_3 (dk_at dksX19_holds_0 14 rfl rfl)
theorem dX19_holds_15 : decode cX19_holds 15 = .ok (.ireturn, 1) := dk_172 (dk_at dksX19_holds_0 15 rfl rfl)
theorem q154 : (Jvm.Cond.initialized "SevenTable$IsBook") ∈ lw_all := lw_g (lw_at lw_m1 37 rfl) rfl
theorem q292 : (Jvm.Cond.fieldLinkNest "SevenTable$IsBook" (9 : Nat) "SevenTable$Game" "book" "[I" "SevenTable") ∈ lw_tbl := lw_at lw_m1 175 rfl
theorem q1083 : (Jvm.Cond.selects "SevenTable$IsBook" ({ cls := "java/lang/Object", name := "equals", desc := "(Ljava/lang/Object;)Z" } : Jvm.MethodName) ({ cls := "java/lang/Object", name := "equals", desc := "(Ljava/lang/Object;)Z" } : Jvm.MethodName)) ∈ lw_all := lw_g (lw_at lw_m5 6 rfl) rfl
theorem q1128 : (Jvm.Cond.selects "SevenTable$IsBook" ({ cls := "java/lang/Object", name := "getClass", desc := "()Ljava/lang/Class;" } : Jvm.MethodName) ({ cls := "java/lang/Object", name := "getClass", desc := "()Ljava/lang/Class;" } : Jvm.MethodName)) ∈ lw_all := lw_g (lw_at lw_m5 51 rfl) rfl
theorem q1663 : (Jvm.Cond.instantiable "SevenTable$IsBook" (0 : Nat)) ∈ lw_all := lw_g (lw_at lw_m7 106 rfl) rfl
theorem q1665 : (Jvm.Cond.instanceMethod ({ cls := "SevenTable$IsBook", name := "<init>", desc := "()V" } : Jvm.MethodName)) ∈ lw_all := lw_g (lw_at lw_m7 108 rfl) rfl
theorem q1666 : (Jvm.Cond.code ({ cls := "SevenTable$IsBook", name := "<init>", desc := "()V" } : Jvm.MethodName) prog_8_method_1_code (1 : Nat) (Option.none : Option Jvm.ClassFile.FieldType)) ∈ lw_all := lw_g (lw_at lw_m7 109 rfl) rfl
theorem q1667 : (Jvm.Cond.methodLinkNest "SevenTable$IsBook" (3 : Nat) ({ cls := "SevenTable$Cond", name := "<init>", desc := "()V" } : Jvm.MethodName) "SevenTable") ∈ lw_tbl := lw_at lw_m7 110 rfl
theorem q1668 : (Jvm.Cond.superclass "SevenTable$IsBook" "SevenTable$Cond") ∈ lw_all := lw_g (lw_at lw_m7 111 rfl) rfl
theorem q1736 : (Jvm.Cond.selects "SevenTable$IsBook" ({ cls := "SevenTable$Cond", name := "holds", desc := "(LSevenTable$Game;I)Z" } : Jvm.MethodName) ({ cls := "SevenTable$IsBook", name := "holds", desc := "(LSevenTable$Game;I)Z" } : Jvm.MethodName)) ∈ lw_all := lw_g (lw_at lw_m7 179 rfl) rfl
theorem q1737 : (Jvm.Cond.instanceMethod ({ cls := "SevenTable$IsBook", name := "holds", desc := "(LSevenTable$Game;I)Z" } : Jvm.MethodName)) ∈ lw_all := lw_g (lw_at lw_m7 180 rfl) rfl
theorem q1738 : (Jvm.Cond.code ({ cls := "SevenTable$IsBook", name := "holds", desc := "(LSevenTable$Game;I)Z" } : Jvm.MethodName) prog_8_method_2_code (3 : Nat) (Option.some Jvm.ClassFile.FieldType.boolean)) ∈ lw_all := lw_g (lw_at lw_m7 181 rfl) rfl
theorem q2513 : (Jvm.Cond.castable "SevenTable$IsBook" "java/lang/Object") ∈ lw_tbl := lw_at lw_m10 236 rfl
/-! SevenTable$InHand -/
set_option maxRecDepth 100000
def RX20 : String := "SevenTable$InHand"
def TX20 : u_T := fun k => match k with
  | 0 => ("SevenTable$InHand", "person", "I", true)
  | _ => ("SevenTable$InHand", "all", "Z", true)
def tyX20 : Nat → FieldType := fun k => match k with
  | 0 => .int
  | _ => .boolean
abbrev wsX200 : List Cond := u_ws RX20 TX20 2
theorem nmX20 : ∀ a, a < 2 → ∀ b, b < 2 → a ≠ b → (TX20 a).2.1 ≠ (TX20 b).2.1 := by decide +kernel
theorem tyX20_ok : ∀ k, k < 2 → parseFieldDescriptor (TX20 k).2.2.1 = some (tyX20 k) := by decide +kernel
abbrev cX20_init : ByteArray := prog_7_method_1_code
def yX20_init : MethodName := ⟨RX20, "<init>", "(IZ)V"⟩
def dkwX20_init_0 : List UInt8 := [42, 183, 0, 1, 42, 27, 181, 0, 7, 42, 28, 181, 0, 13, 177]
abbrev dktX20_init_0 : List UInt8 := dkwX20_init_0 ++ []
theorem dksX20_init_0 : cX20_init.data.toList.drop 0 = dktX20_init_0 := by decide +kernel
theorem dX20_init_0 : decode cX20_init 0 = .ok (.aload_n 0, 1) := dk_42 (dk_at dksX20_init_0 0 rfl rfl)
theorem dX20_init_1 : decode cX20_init 1 = .ok (.invokespecial 1, 3) := dk_183 0 1 (dk_at dksX20_init_0 1 rfl rfl)
theorem dX20_init_4 : decode cX20_init 4 = .ok (.aload_n 0, 1) := dk_42 (dk_at dksX20_init_0 4 rfl rfl)
theorem dX20_init_5 : decode cX20_init 5 = .ok (.iload_n 1, 1) := dk_27 (dk_at dksX20_init_0 5 rfl rfl)
theorem dX20_init_6 : decode cX20_init 6 = .ok (.putfield 7, 3) := dk_181 0 7 (dk_at dksX20_init_0 6 rfl rfl)
theorem dX20_init_9 : decode cX20_init 9 = .ok (.aload_n 0, 1) := dk_42 (dk_at dksX20_init_0 9 rfl rfl)
theorem dX20_init_10 : decode cX20_init 10 = .ok (.iload_n 2, 1) := dk_28 (dk_at dksX20_init_0 10 rfl rfl)
theorem dX20_init_11 : decode cX20_init 11 = .ok (.putfield 13, 3) := dk_181 0 13 (dk_at dksX20_init_0 11 rfl rfl)
theorem dX20_init_14 : decode cX20_init 14 = .ok (.return_, 1) := dk_177 (dk_at dksX20_init_0 14 rfl rfl)
abbrev cX20_holds : ByteArray := prog_7_method_2_code
def yX20_holds : MethodName := ⟨RX20, "holds", "(LSevenTable$Game;I)Z"⟩
def dkwX20_holds_1 : List UInt8 := [46, 158, 0, 7, 4, 167, 0, 4, 3, 172]
abbrev dktX20_holds_1 : List UInt8 := dkwX20_holds_1 ++ []
def dkwX20_holds_0 : List UInt8 := [42, 180, 0, 13, 153, 0, 10, 43, 180, 0, 17, 167, 0, 7, 43, 180, 0, 23, 42, 180, 0, 7, 50, 28]
abbrev dktX20_holds_0 : List UInt8 := dkwX20_holds_0 ++ dktX20_holds_1
theorem dksX20_holds_0 : cX20_holds.data.toList.drop 0 = dktX20_holds_0 := by decide +kernel
theorem dksX20_holds_1 : cX20_holds.data.toList.drop 24 = dktX20_holds_1 := dk_seg dksX20_holds_0 24 rfl rfl
theorem dX20_holds_0 : decode cX20_holds 0 = .ok (.aload_n 0, 1) := dk_42 (dk_at dksX20_holds_0 0 rfl rfl)
theorem dX20_holds_1 : decode cX20_holds 1 = .ok (.getfield 13, 3) := dk_180 0 13 (dk_at dksX20_holds_0 1 rfl rfl)
theorem dX20_holds_4 : decode cX20_holds 4 = .ok (.ifCond .eq 10, 3) := dk_153 0 10 (dk_at dksX20_holds_0 4 rfl rfl)
theorem dX20_holds_7 : decode cX20_holds 7 = .ok (.aload_n 1, 1) := dk_43 (dk_at dksX20_holds_0 7 rfl rfl)
theorem dX20_holds_8 : decode cX20_holds 8 = .ok (.getfield 17, 3) := dk_180 0 17 (dk_at dksX20_holds_0 8 rfl rfl)
theorem dX20_holds_11 : decode cX20_holds 11 = .ok (.goto 7, 3) := dk_167 0 7 (dk_at dksX20_holds_0 11 rfl rfl)
theorem dX20_holds_14 : decode cX20_holds 14 = .ok (.aload_n 1, 1) := dk_43 (dk_at dksX20_holds_0 14 rfl rfl)
theorem dX20_holds_15 : decode cX20_holds 15 = .ok (.getfield 23, 3) := dk_180 0 23 (dk_at dksX20_holds_0 15 rfl rfl)
theorem dX20_holds_18 : decode cX20_holds 18 = .ok (.aload_n 0, 1) := dk_42 (dk_at dksX20_holds_0 18 rfl rfl)
theorem dX20_holds_19 : decode cX20_holds 19 = .ok (.getfield 7, 3) := dk_180 0 7 (dk_at dksX20_holds_0 19 rfl rfl)
theorem dX20_holds_22 : decode cX20_holds 22 = .ok (.aaload, 1) := dk_50 (dk_at dksX20_holds_0 22 rfl rfl)
theorem dX20_holds_23 : decode cX20_holds 23 = .ok (.iload_n 2, 1) := dk_28 (dk_at dksX20_holds_0 23 rfl rfl)
theorem dX20_holds_24 : decode cX20_holds 24 = .ok (.iaload, 1) := dk_46 (dk_at dksX20_holds_1 0 rfl rfl)
theorem dX20_holds_25 : decode cX20_holds 25 = .ok (.ifCond .le 7, 3) := dk_158 0 7 (dk_at dksX20_holds_1 1 rfl rfl)
theorem dX20_holds_28 : decode cX20_holds 28 = .ok (.iconst 1, 1) := dk_4 (dk_at dksX20_holds_1 4 rfl rfl)
theorem dX20_holds_29 : decode cX20_holds 29 = .ok (.goto 4, 3) := dk_167 0 4 (dk_at dksX20_holds_1 5 rfl rfl)
theorem dX20_holds_32 : decode cX20_holds 32 = .ok (.iconst 0, 1) := dk_3 (dk_at dksX20_holds_1 8 rfl rfl)
theorem dX20_holds_33 : decode cX20_holds 33 = .ok (.ireturn, 1) := dk_172 (dk_at dksX20_holds_1 9 rfl rfl)
theorem q155 : (Jvm.Cond.initialized "SevenTable$InHand") ∈ lw_all := lw_g (lw_at lw_m1 38 rfl) rfl
theorem q267 : (Jvm.Cond.fieldLinkNest "SevenTable$InHand" (23 : Nat) "SevenTable$Game" "hand" "[[I" "SevenTable") ∈ lw_tbl := lw_at lw_m1 150 rfl
theorem q275 : (Jvm.Cond.fieldLinkNest "SevenTable$InHand" (17 : Nat) "SevenTable$Game" "known" "[[I" "SevenTable") ∈ lw_tbl := lw_at lw_m1 158 rfl
theorem q1082 : (Jvm.Cond.selects "SevenTable$InHand" ({ cls := "java/lang/Object", name := "equals", desc := "(Ljava/lang/Object;)Z" } : Jvm.MethodName) ({ cls := "java/lang/Object", name := "equals", desc := "(Ljava/lang/Object;)Z" } : Jvm.MethodName)) ∈ lw_all := lw_g (lw_at lw_m5 5 rfl) rfl
theorem q1127 : (Jvm.Cond.selects "SevenTable$InHand" ({ cls := "java/lang/Object", name := "getClass", desc := "()Ljava/lang/Class;" } : Jvm.MethodName) ({ cls := "java/lang/Object", name := "getClass", desc := "()Ljava/lang/Class;" } : Jvm.MethodName)) ∈ lw_all := lw_g (lw_at lw_m5 50 rfl) rfl
theorem q1670 : (Jvm.Cond.instantiable "SevenTable$InHand" (2 : Nat)) ∈ lw_all := lw_g (lw_at lw_m7 113 rfl) rfl
theorem q1675 : (Jvm.Cond.instanceMethod ({ cls := "SevenTable$InHand", name := "<init>", desc := "(IZ)V" } : Jvm.MethodName)) ∈ lw_all := lw_g (lw_at lw_m7 118 rfl) rfl
theorem q1676 : (Jvm.Cond.code ({ cls := "SevenTable$InHand", name := "<init>", desc := "(IZ)V" } : Jvm.MethodName) prog_7_method_1_code (3 : Nat) (Option.none : Option Jvm.ClassFile.FieldType)) ∈ lw_all := lw_g (lw_at lw_m7 119 rfl) rfl
theorem q1677 : (Jvm.Cond.methodLinkNest "SevenTable$InHand" (1 : Nat) ({ cls := "SevenTable$Cond", name := "<init>", desc := "()V" } : Jvm.MethodName) "SevenTable") ∈ lw_tbl := lw_at lw_m7 120 rfl
theorem q1678 : (Jvm.Cond.fieldLink "SevenTable$InHand" (7 : Nat) "SevenTable$InHand" "person" "I") ∈ lw_all := lw_g (lw_at lw_m7 121 rfl) rfl
theorem q1679 : (Jvm.Cond.fieldLink "SevenTable$InHand" (13 : Nat) "SevenTable$InHand" "all" "Z") ∈ lw_all := lw_g (lw_at lw_m7 122 rfl) rfl
theorem q1680 : (Jvm.Cond.laysFinal "SevenTable$InHand" "SevenTable$InHand" "person" "I") ∈ lw_all := lw_g (lw_at lw_m7 123 rfl) rfl
theorem q1681 : (Jvm.Cond.soleField "SevenTable$InHand" "person") ∈ lw_all := lw_g (lw_at lw_m7 124 rfl) rfl
theorem q1682 : (Jvm.Cond.laysFinal "SevenTable$InHand" "SevenTable$InHand" "all" "Z") ∈ lw_all := lw_g (lw_at lw_m7 125 rfl) rfl
theorem q1683 : (Jvm.Cond.soleField "SevenTable$InHand" "all") ∈ lw_all := lw_g (lw_at lw_m7 126 rfl) rfl
theorem q1684 : (Jvm.Cond.superclass "SevenTable$InHand" "SevenTable$Cond") ∈ lw_all := lw_g (lw_at lw_m7 127 rfl) rfl
theorem q1733 : (Jvm.Cond.selects "SevenTable$InHand" ({ cls := "SevenTable$Cond", name := "holds", desc := "(LSevenTable$Game;I)Z" } : Jvm.MethodName) ({ cls := "SevenTable$InHand", name := "holds", desc := "(LSevenTable$Game;I)Z" } : Jvm.MethodName)) ∈ lw_all := lw_g (lw_at lw_m7 176 rfl) rfl
theorem q1734 : (Jvm.Cond.instanceMethod ({ cls := "SevenTable$InHand", name := "holds", desc := "(LSevenTable$Game;I)Z" } : Jvm.MethodName)) ∈ lw_all := lw_g (lw_at lw_m7 177 rfl) rfl
theorem q1735 : (Jvm.Cond.code ({ cls := "SevenTable$InHand", name := "holds", desc := "(LSevenTable$Game;I)Z" } : Jvm.MethodName) prog_7_method_2_code (3 : Nat) (Option.some Jvm.ClassFile.FieldType.boolean)) ∈ lw_all := lw_g (lw_at lw_m7 178 rfl) rfl
theorem q2514 : (Jvm.Cond.castable "SevenTable$InHand" "java/lang/Object") ∈ lw_tbl := lw_at lw_m10 237 rfl
theorem in_X20 : ∀ w ∈ wsX200, w ∈ lw_all := lw_in wsX200 [1680, 1682] (by decide +kernel) (by decide +kernel)
/-! SevenTable$Than -/
set_option maxRecDepth 100000
def RX21 : String := "SevenTable$Than"
def TX21 : u_T := fun k => match k with
  | 0 => ("SevenTable$Than", "what", "I", true)
  | 1 => ("SevenTable$Than", "sign", "I", true)
  | _ => ("SevenTable$Than", "number", "I", true)
def tyX21 : Nat → FieldType := fun k => match k with
  | 0 => .int
  | 1 => .int
  | _ => .int
abbrev wsX210 : List Cond := u_ws RX21 TX21 3
theorem nmX21 : ∀ a, a < 3 → ∀ b, b < 3 → a ≠ b → (TX21 a).2.1 ≠ (TX21 b).2.1 := by decide +kernel
theorem tyX21_ok : ∀ k, k < 3 → parseFieldDescriptor (TX21 k).2.2.1 = some (tyX21 k) := by decide +kernel
abbrev cX21_init : ByteArray := prog_20_method_1_code
def yX21_init : MethodName := ⟨RX21, "<init>", "(III)V"⟩
def dkwX21_init_0 : List UInt8 := [42, 183, 0, 3, 42, 27, 181, 0, 9, 42, 28, 181, 0, 15, 42, 29, 181, 0, 18, 177]
abbrev dktX21_init_0 : List UInt8 := dkwX21_init_0 ++ []
theorem dksX21_init_0 : cX21_init.data.toList.drop 0 = dktX21_init_0 := by decide +kernel
theorem dX21_init_0 : decode cX21_init 0 = .ok (.aload_n 0, 1) := dk_42 (dk_at dksX21_init_0 0 rfl rfl)
theorem dX21_init_1 : decode cX21_init 1 = .ok (.invokespecial 3, 3) := dk_183 0 3 (dk_at dksX21_init_0 1 rfl rfl)
theorem dX21_init_4 : decode cX21_init 4 = .ok (.aload_n 0, 1) := dk_42 (dk_at dksX21_init_0 4 rfl rfl)
theorem dX21_init_5 : decode cX21_init 5 = .ok (.iload_n 1, 1) := dk_27 (dk_at dksX21_init_0 5 rfl rfl)
theorem dX21_init_6 : decode cX21_init 6 = .ok (.putfield 9, 3) := dk_181 0 9 (dk_at dksX21_init_0 6 rfl rfl)
theorem dX21_init_9 : decode cX21_init 9 = .ok (.aload_n 0, 1) := dk_42 (dk_at dksX21_init_0 9 rfl rfl)
theorem dX21_init_10 : decode cX21_init 10 = .ok (.iload_n 2, 1) := dk_28 (dk_at dksX21_init_0 10 rfl rfl)
theorem dX21_init_11 : decode cX21_init 11 = .ok (.putfield 15, 3) := dk_181 0 15 (dk_at dksX21_init_0 11 rfl rfl)
theorem dX21_init_14 : decode cX21_init 14 = .ok (.aload_n 0, 1) := dk_42 (dk_at dksX21_init_0 14 rfl rfl)
theorem dX21_init_15 : decode cX21_init 15 = .ok (.iload_n 3, 1) := dk_29 (dk_at dksX21_init_0 15 rfl rfl)
theorem dX21_init_16 : decode cX21_init 16 = .ok (.putfield 18, 3) := dk_181 0 18 (dk_at dksX21_init_0 16 rfl rfl)
theorem dX21_init_19 : decode cX21_init 19 = .ok (.return_, 1) := dk_177 (dk_at dksX21_init_0 19 rfl rfl)
abbrev cX21_holds : ByteArray := prog_20_method_3_code
def yX21_holds : MethodName := ⟨RX21, "holds", "(LSevenTable$Game;I)Z"⟩
def dkwX21_holds_3 : List UInt8 := [172]
abbrev dktX21_holds_3 : List UInt8 := dkwX21_holds_3 ++ []
def dkwX21_holds_2 : List UInt8 := [160, 0, 7, 4, 167, 0, 20, 3, 167, 0, 16, 29, 42, 180, 0, 18, 164, 0, 7, 4, 167, 0, 4, 3]
abbrev dktX21_holds_2 : List UInt8 := dkwX21_holds_2 ++ dktX21_holds_3
def dkwX21_holds_1 : List UInt8 := [4, 167, 0, 45, 3, 167, 0, 41, 42, 180, 0, 15, 16, 61, 160, 0, 19, 29, 42, 180, 0, 18]
abbrev dktX21_holds_1 : List UInt8 := dkwX21_holds_1 ++ dktX21_holds_2
def dkwX21_holds_0 : List UInt8 := [42, 43, 28, 182, 0, 43, 62, 42, 180, 0, 15, 16, 60, 160, 0, 19, 29, 42, 180, 0, 18, 162, 0, 7]
abbrev dktX21_holds_0 : List UInt8 := dkwX21_holds_0 ++ dktX21_holds_1
theorem dksX21_holds_0 : cX21_holds.data.toList.drop 0 = dktX21_holds_0 := by decide +kernel
theorem dksX21_holds_1 : cX21_holds.data.toList.drop 24 = dktX21_holds_1 := dk_seg dksX21_holds_0 24 rfl rfl
theorem dksX21_holds_2 : cX21_holds.data.toList.drop 46 = dktX21_holds_2 := dk_seg dksX21_holds_1 22 rfl rfl
theorem dksX21_holds_3 : cX21_holds.data.toList.drop 70 = dktX21_holds_3 := dk_seg dksX21_holds_2 24 rfl rfl
theorem dX21_holds_0 : decode cX21_holds 0 = .ok (.aload_n 0, 1) := dk_42 (dk_at dksX21_holds_0 0 rfl rfl)
theorem dX21_holds_1 : decode cX21_holds 1 = .ok (.aload_n 1, 1) := dk_43 (dk_at dksX21_holds_0 1 rfl rfl)
theorem dX21_holds_2 : decode cX21_holds 2 = .ok (.iload_n 2, 1) := dk_28 (dk_at dksX21_holds_0 2 rfl rfl)
theorem dX21_holds_3 : decode cX21_holds 3 = .ok (.invokevirtual 43, 3) := dk_182 0 43 (dk_at dksX21_holds_0 3 rfl rfl)
theorem dX21_holds_6 : decode cX21_holds 6 = .ok (.istore_n 3, 1) := dk_62 (dk_at dksX21_holds_0 6 rfl rfl)
theorem dX21_holds_7 : decode cX21_holds 7 = .ok (.aload_n 0, 1) := dk_42 (dk_at dksX21_holds_0 7 rfl rfl)
theorem dX21_holds_8 : decode cX21_holds 8 = .ok (.getfield 15, 3) := dk_180 0 15 (dk_at dksX21_holds_0 8 rfl rfl)
theorem dX21_holds_11 : decode cX21_holds 11 = .ok (.bipush 60, 2) := dk_16 60 (dk_at dksX21_holds_0 11 rfl rfl)
theorem dX21_holds_13 : decode cX21_holds 13 = .ok (.if_icmp .ne 19, 3) := dk_160 0 19 (dk_at dksX21_holds_0 13 rfl rfl)
theorem dX21_holds_16 : decode cX21_holds 16 = .ok (.iload_n 3, 1) := dk_29 (dk_at dksX21_holds_0 16 rfl rfl)
theorem dX21_holds_17 : decode cX21_holds 17 = .ok (.aload_n 0, 1) := dk_42 (dk_at dksX21_holds_0 17 rfl rfl)
theorem dX21_holds_18 : decode cX21_holds 18 = .ok (.getfield 18, 3) := dk_180 0 18 (dk_at dksX21_holds_0 18 rfl rfl)
theorem dX21_holds_21 : decode cX21_holds 21 = .ok (.if_icmp .ge 7, 3) := dk_162 0 7 (dk_at dksX21_holds_0 21 rfl rfl)
theorem dX21_holds_24 : decode cX21_holds 24 = .ok (.iconst 1, 1) := dk_4 (dk_at dksX21_holds_1 0 rfl rfl)
theorem dX21_holds_25 : decode cX21_holds 25 = .ok (.goto 45, 3) := dk_167 0 45 (dk_at dksX21_holds_1 1 rfl rfl)
theorem dX21_holds_28 : decode cX21_holds 28 = .ok (.iconst 0, 1) := dk_3 (dk_at dksX21_holds_1 4 rfl rfl)
theorem dX21_holds_29 : decode cX21_holds 29 = .ok (.goto 41, 3) := dk_167 0 41 (dk_at dksX21_holds_1 5 rfl rfl)
theorem dX21_holds_32 : decode cX21_holds 32 = .ok (.aload_n 0, 1) := dk_42 (dk_at dksX21_holds_1 8 rfl rfl)
theorem dX21_holds_33 : decode cX21_holds 33 = .ok (.getfield 15, 3) := dk_180 0 15 (dk_at dksX21_holds_1 9 rfl rfl)
theorem dX21_holds_36 : decode cX21_holds 36 = .ok (.bipush 61, 2) := dk_16 61 (dk_at dksX21_holds_1 12 rfl rfl)
theorem dX21_holds_38 : decode cX21_holds 38 = .ok (.if_icmp .ne 19, 3) := dk_160 0 19 (dk_at dksX21_holds_1 14 rfl rfl)
theorem dX21_holds_41 : decode cX21_holds 41 = .ok (.iload_n 3, 1) := dk_29 (dk_at dksX21_holds_1 17 rfl rfl)
theorem dX21_holds_42 : decode cX21_holds 42 = .ok (.aload_n 0, 1) := dk_42 (dk_at dksX21_holds_1 18 rfl rfl)
theorem dX21_holds_43 : decode cX21_holds 43 = .ok (.getfield 18, 3) := dk_180 0 18 (dk_at dksX21_holds_1 19 rfl rfl)
theorem dX21_holds_46 : decode cX21_holds 46 = .ok (.if_icmp .ne 7, 3) := dk_160 0 7 (dk_at dksX21_holds_2 0 rfl rfl)
theorem dX21_holds_49 : decode cX21_holds 49 = .ok (.iconst 1, 1) := dk_4 (dk_at dksX21_holds_2 3 rfl rfl)
theorem dX21_holds_50 : decode cX21_holds 50 = .ok (.goto 20, 3) := dk_167 0 20 (dk_at dksX21_holds_2 4 rfl rfl)
theorem dX21_holds_53 : decode cX21_holds 53 = .ok (.iconst 0, 1) := dk_3 (dk_at dksX21_holds_2 7 rfl rfl)
theorem dX21_holds_54 : decode cX21_holds 54 = .ok (.goto 16, 3) := dk_167 0 16 (dk_at dksX21_holds_2 8 rfl rfl)
theorem dX21_holds_57 : decode cX21_holds 57 = .ok (.iload_n 3, 1) := dk_29 (dk_at dksX21_holds_2 11 rfl rfl)
theorem dX21_holds_58 : decode cX21_holds 58 = .ok (.aload_n 0, 1) := dk_42 (dk_at dksX21_holds_2 12 rfl rfl)
theorem dX21_holds_59 : decode cX21_holds 59 = .ok (.getfield 18, 3) := dk_180 0 18 (dk_at dksX21_holds_2 13 rfl rfl)
theorem dX21_holds_62 : decode cX21_holds 62 = .ok (.if_icmp .le 7, 3) := dk_164 0 7 (dk_at dksX21_holds_2 16 rfl rfl)
theorem dX21_holds_65 : decode cX21_holds 65 = .ok (.iconst 1, 1) := dk_4 (dk_at dksX21_holds_2 19 rfl rfl)
theorem dX21_holds_66 : decode cX21_holds 66 = .ok (.goto 4, 3) := dk_167 0 4 (dk_at dksX21_holds_2 20 rfl rfl)
theorem dX21_holds_69 : decode cX21_holds 69 = .ok (.iconst 0, 1) := dk_3 (dk_at dksX21_holds_2 23 rfl rfl)
theorem dX21_holds_70 : decode cX21_holds 70 = .ok (.ireturn, 1) := dk_172 (dk_at dksX21_holds_3 0 rfl rfl)
abbrev cX21_value : ByteArray := prog_20_method_2_code
def yX21_value : MethodName := ⟨RX21, "value", "(LSevenTable$Game;I)I"⟩
def dkwX21_value_5 : List UInt8 := [167, 0, 4, 29, 172]
abbrev dktX21_value_5 : List UInt8 := dkwX21_value_5 ++ []
def dkwX21_value_4 : List UInt8 := [184, 0, 37, 167, 0, 4, 29, 62, 132, 4, 1, 167, 255, 199, 42, 180, 0, 9, 6, 160, 0, 7, 28]
abbrev dktX21_value_4 : List UInt8 := dkwX21_value_4 ++ dktX21_value_5
def dkwX21_value_3 : List UInt8 := [28, 46, 96, 167, 0, 28, 42, 180, 0, 9, 5, 160, 0, 19, 29, 43, 180, 0, 33, 21, 4, 50, 28, 46]
abbrev dktX21_value_3 : List UInt8 := dkwX21_value_3 ++ dktX21_value_4
def dkwX21_value_2 : List UInt8 := [54, 4, 21, 4, 16, 6, 162, 0, 56, 42, 180, 0, 9, 154, 0, 17, 29, 43, 180, 0, 33, 21, 4, 50]
abbrev dktX21_value_2 : List UInt8 := dkwX21_value_2 ++ dktX21_value_3
def dkwX21_value_1 : List UInt8 := [162, 0, 23, 43, 180, 0, 29, 21, 4, 46, 28, 160, 0, 6, 132, 3, 1, 132, 4, 1, 167, 255, 230, 3]
abbrev dktX21_value_1 : List UInt8 := dkwX21_value_1 ++ dktX21_value_2
def dkwX21_value_0 : List UInt8 := [3, 62, 42, 180, 0, 9, 4, 160, 0, 38, 43, 180, 0, 21, 54, 4, 21, 4, 43, 180, 0, 26]
abbrev dktX21_value_0 : List UInt8 := dkwX21_value_0 ++ dktX21_value_1
theorem dksX21_value_0 : cX21_value.data.toList.drop 0 = dktX21_value_0 := by decide +kernel
theorem dksX21_value_1 : cX21_value.data.toList.drop 22 = dktX21_value_1 := dk_seg dksX21_value_0 22 rfl rfl
theorem dksX21_value_2 : cX21_value.data.toList.drop 46 = dktX21_value_2 := dk_seg dksX21_value_1 24 rfl rfl
theorem dksX21_value_3 : cX21_value.data.toList.drop 70 = dktX21_value_3 := dk_seg dksX21_value_2 24 rfl rfl
theorem dksX21_value_4 : cX21_value.data.toList.drop 94 = dktX21_value_4 := dk_seg dksX21_value_3 24 rfl rfl
theorem dksX21_value_5 : cX21_value.data.toList.drop 117 = dktX21_value_5 := dk_seg dksX21_value_4 23 rfl rfl
theorem dX21_value_0 : decode cX21_value 0 = .ok (.iconst 0, 1) := dk_3 (dk_at dksX21_value_0 0 rfl rfl)
theorem dX21_value_1 : decode cX21_value 1 = .ok (.istore_n 3, 1) := dk_62 (dk_at dksX21_value_0 1 rfl rfl)
theorem dX21_value_2 : decode cX21_value 2 = .ok (.aload_n 0, 1) := dk_42 (dk_at dksX21_value_0 2 rfl rfl)
theorem dX21_value_3 : decode cX21_value 3 = .ok (.getfield 9, 3) := dk_180 0 9 (dk_at dksX21_value_0 3 rfl rfl)
theorem dX21_value_6 : decode cX21_value 6 = .ok (.iconst 1, 1) := dk_4 (dk_at dksX21_value_0 6 rfl rfl)
theorem dX21_value_7 : decode cX21_value 7 = .ok (.if_icmp .ne 38, 3) := dk_160 0 38 (dk_at dksX21_value_0 7 rfl rfl)
theorem dX21_value_10 : decode cX21_value 10 = .ok (.aload_n 1, 1) := dk_43 (dk_at dksX21_value_0 10 rfl rfl)
theorem dX21_value_11 : decode cX21_value 11 = .ok (.getfield 21, 3) := dk_180 0 21 (dk_at dksX21_value_0 11 rfl rfl)
theorem dX21_value_14 : decode cX21_value 14 = .ok (.istore 4, 2) := dk_54 4 (dk_at dksX21_value_0 14 rfl rfl)
theorem dX21_value_16 : decode cX21_value 16 = .ok (.iload 4, 2) := dk_21 4 (dk_at dksX21_value_0 16 rfl rfl)
theorem dX21_value_18 : decode cX21_value 18 = .ok (.aload_n 1, 1) := dk_43 (dk_at dksX21_value_0 18 rfl rfl)
theorem dX21_value_19 : decode cX21_value 19 = .ok (.getfield 26, 3) := dk_180 0 26 (dk_at dksX21_value_0 19 rfl rfl)
theorem dX21_value_22 : decode cX21_value 22 = .ok (.if_icmp .ge 23, 3) := dk_162 0 23 (dk_at dksX21_value_1 0 rfl rfl)
theorem dX21_value_25 : decode cX21_value 25 = .ok (.aload_n 1, 1) := dk_43 (dk_at dksX21_value_1 3 rfl rfl)
theorem dX21_value_26 : decode cX21_value 26 = .ok (.getfield 29, 3) := dk_180 0 29 (dk_at dksX21_value_1 4 rfl rfl)
theorem dX21_value_29 : decode cX21_value 29 = .ok (.iload 4, 2) := dk_21 4 (dk_at dksX21_value_1 7 rfl rfl)
theorem dX21_value_31 : decode cX21_value 31 = .ok (.iaload, 1) := dk_46 (dk_at dksX21_value_1 9 rfl rfl)
theorem dX21_value_32 : decode cX21_value 32 = .ok (.iload_n 2, 1) := dk_28 (dk_at dksX21_value_1 10 rfl rfl)
theorem dX21_value_33 : decode cX21_value 33 = .ok (.if_icmp .ne 6, 3) := dk_160 0 6 (dk_at dksX21_value_1 11 rfl rfl)
theorem dX21_value_36 : decode cX21_value 36 = .ok (.iinc 3 1, 3) := dk_132 3 1 (dk_at dksX21_value_1 14 rfl rfl)
theorem dX21_value_39 : decode cX21_value 39 = .ok (.iinc 4 1, 3) := dk_132 4 1 (dk_at dksX21_value_1 17 rfl rfl)
theorem dX21_value_42 : decode cX21_value 42 = .ok (.goto (-26), 3) := dk_167 255 230 (dk_at dksX21_value_1 20 rfl rfl)
theorem dX21_value_45 : decode cX21_value 45 = .ok (.iconst 0, 1) := dk_3 (dk_at dksX21_value_1 23 rfl rfl)
theorem dX21_value_46 : decode cX21_value 46 = .ok (.istore 4, 2) := dk_54 4 (dk_at dksX21_value_2 0 rfl rfl)
theorem dX21_value_48 : decode cX21_value 48 = .ok (.iload 4, 2) := dk_21 4 (dk_at dksX21_value_2 2 rfl rfl)
theorem dX21_value_50 : decode cX21_value 50 = .ok (.bipush 6, 2) := dk_16 6 (dk_at dksX21_value_2 4 rfl rfl)
theorem dX21_value_52 : decode cX21_value 52 = .ok (.if_icmp .ge 56, 3) := dk_162 0 56 (dk_at dksX21_value_2 6 rfl rfl)
theorem dX21_value_55 : decode cX21_value 55 = .ok (.aload_n 0, 1) := dk_42 (dk_at dksX21_value_2 9 rfl rfl)
theorem dX21_value_56 : decode cX21_value 56 = .ok (.getfield 9, 3) := dk_180 0 9 (dk_at dksX21_value_2 10 rfl rfl)
theorem dX21_value_59 : decode cX21_value 59 = .ok (.ifCond .ne 17, 3) := dk_154 0 17 (dk_at dksX21_value_2 13 rfl rfl)
theorem dX21_value_62 : decode cX21_value 62 = .ok (.iload_n 3, 1) := dk_29 (dk_at dksX21_value_2 16 rfl rfl)
theorem dX21_value_63 : decode cX21_value 63 = .ok (.aload_n 1, 1) := dk_43 (dk_at dksX21_value_2 17 rfl rfl)
theorem dX21_value_64 : decode cX21_value 64 = .ok (.getfield 33, 3) := dk_180 0 33 (dk_at dksX21_value_2 18 rfl rfl)
theorem dX21_value_67 : decode cX21_value 67 = .ok (.iload 4, 2) := dk_21 4 (dk_at dksX21_value_2 21 rfl rfl)
theorem dX21_value_69 : decode cX21_value 69 = .ok (.aaload, 1) := dk_50 (dk_at dksX21_value_2 23 rfl rfl)
theorem dX21_value_70 : decode cX21_value 70 = .ok (.iload_n 2, 1) := dk_28 (dk_at dksX21_value_3 0 rfl rfl)
theorem dX21_value_71 : decode cX21_value 71 = .ok (.iaload, 1) := dk_46 (dk_at dksX21_value_3 1 rfl rfl)
theorem dX21_value_72 : decode cX21_value 72 = .ok (.iadd, 1) := dk_96 (dk_at dksX21_value_3 2 rfl rfl)
theorem dX21_value_73 : decode cX21_value 73 = .ok (.goto 28, 3) := dk_167 0 28 (dk_at dksX21_value_3 3 rfl rfl)
theorem dX21_value_76 : decode cX21_value 76 = .ok (.aload_n 0, 1) := dk_42 (dk_at dksX21_value_3 6 rfl rfl)
theorem dX21_value_77 : decode cX21_value 77 = .ok (.getfield 9, 3) := dk_180 0 9 (dk_at dksX21_value_3 7 rfl rfl)
theorem dX21_value_80 : decode cX21_value 80 = .ok (.iconst 2, 1) := dk_5 (dk_at dksX21_value_3 10 rfl rfl)
theorem dX21_value_81 : decode cX21_value 81 = .ok (.if_icmp .ne 19, 3) := dk_160 0 19 (dk_at dksX21_value_3 11 rfl rfl)
theorem dX21_value_84 : decode cX21_value 84 = .ok (.iload_n 3, 1) := dk_29 (dk_at dksX21_value_3 14 rfl rfl)
theorem dX21_value_85 : decode cX21_value 85 = .ok (.aload_n 1, 1) := dk_43 (dk_at dksX21_value_3 15 rfl rfl)
theorem dX21_value_86 : decode cX21_value 86 = .ok (.getfield 33, 3) := dk_180 0 33 (dk_at dksX21_value_3 16 rfl rfl)
theorem dX21_value_89 : decode cX21_value 89 = .ok (.iload 4, 2) := dk_21 4 (dk_at dksX21_value_3 19 rfl rfl)
theorem dX21_value_91 : decode cX21_value 91 = .ok (.aaload, 1) := dk_50 (dk_at dksX21_value_3 21 rfl rfl)
theorem dX21_value_92 : decode cX21_value 92 = .ok (.iload_n 2, 1) := dk_28 (dk_at dksX21_value_3 22 rfl rfl)
theorem dX21_value_93 : decode cX21_value 93 = .ok (.iaload, 1) := dk_46 (dk_at dksX21_value_3 23 rfl rfl)
theorem dX21_value_94 : decode cX21_value 94 = .ok (.invokestatic 37, 3) := dk_184 0 37 (dk_at dksX21_value_4 0 rfl rfl)
theorem dX21_value_97 : decode cX21_value 97 = .ok (.goto 4, 3) := dk_167 0 4 (dk_at dksX21_value_4 3 rfl rfl)
theorem dX21_value_100 : decode cX21_value 100 = .ok (.iload_n 3, 1) := dk_29 (dk_at dksX21_value_4 6 rfl rfl)
theorem dX21_value_101 : decode cX21_value 101 = .ok (.istore_n 3, 1) := dk_62 (dk_at dksX21_value_4 7 rfl rfl)
theorem dX21_value_102 : decode cX21_value 102 = .ok (.iinc 4 1, 3) := dk_132 4 1 (dk_at dksX21_value_4 8 rfl rfl)
theorem dX21_value_105 : decode cX21_value 105 = .ok (.goto (-57), 3) := dk_167 255 199 (dk_at dksX21_value_4 11 rfl rfl)
theorem dX21_value_108 : decode cX21_value 108 = .ok (.aload_n 0, 1) := dk_42 (dk_at dksX21_value_4 14 rfl rfl)
theorem dX21_value_109 : decode cX21_value 109 = .ok (.getfield 9, 3) := dk_180 0 9 (dk_at dksX21_value_4 15 rfl rfl)
theorem dX21_value_112 : decode cX21_value 112 = .ok (.iconst 3, 1) := dk_6 (dk_at dksX21_value_4 18 rfl rfl)
theorem dX21_value_113 : decode cX21_value 113 = .ok (.if_icmp .ne 7, 3) := dk_160 0 7 (dk_at dksX21_value_4 19 rfl rfl)
theorem dX21_value_116 : decode cX21_value 116 = .ok (.iload_n 2, 1) := dk_28 (dk_at dksX21_value_4 22 rfl rfl)
theorem dX21_value_117 : decode cX21_value 117 = .ok (.goto 4, 3) := dk_167 0 4 (dk_at dksX21_value_5 0 rfl rfl)
theorem dX21_value_120 : decode cX21_value 120 = .ok (.iload_n 3, 1) := dk_29 (dk_at dksX21_value_5 3 rfl rfl)
theorem dX21_value_121 : decode cX21_value 121 = .ok (.ireturn, 1) := dk_172 (dk_at dksX21_value_5 4 rfl rfl)
theorem q156 : (Jvm.Cond.initialized "SevenTable$Than") ∈ lw_all := lw_g (lw_at lw_m1 39 rfl) rfl
theorem q269 : (Jvm.Cond.fieldLinkNest "SevenTable$Than" (33 : Nat) "SevenTable$Game" "hand" "[[I" "SevenTable") ∈ lw_tbl := lw_at lw_m1 152 rfl
theorem q295 : (Jvm.Cond.fieldLinkNest "SevenTable$Than" (29 : Nat) "SevenTable$Game" "heap" "[I" "SevenTable") ∈ lw_tbl := lw_at lw_m1 178 rfl
theorem q300 : (Jvm.Cond.fieldLinkNest "SevenTable$Than" (21 : Nat) "SevenTable$Game" "heapAt" "I" "SevenTable") ∈ lw_tbl := lw_at lw_m1 183 rfl
theorem q303 : (Jvm.Cond.fieldLinkNest "SevenTable$Than" (26 : Nat) "SevenTable$Game" "heaped" "I" "SevenTable") ∈ lw_tbl := lw_at lw_m1 186 rfl
theorem q1094 : (Jvm.Cond.selects "SevenTable$Than" ({ cls := "java/lang/Object", name := "equals", desc := "(Ljava/lang/Object;)Z" } : Jvm.MethodName) ({ cls := "java/lang/Object", name := "equals", desc := "(Ljava/lang/Object;)Z" } : Jvm.MethodName)) ∈ lw_all := lw_g (lw_at lw_m5 17 rfl) rfl
theorem q1139 : (Jvm.Cond.selects "SevenTable$Than" ({ cls := "java/lang/Object", name := "getClass", desc := "()Ljava/lang/Class;" } : Jvm.MethodName) ({ cls := "java/lang/Object", name := "getClass", desc := "()Ljava/lang/Class;" } : Jvm.MethodName)) ∈ lw_all := lw_g (lw_at lw_m5 62 rfl) rfl
theorem q1690 : (Jvm.Cond.instantiable "SevenTable$Than" (3 : Nat)) ∈ lw_all := lw_g (lw_at lw_m7 133 rfl) rfl
theorem q1695 : (Jvm.Cond.instanceMethod ({ cls := "SevenTable$Than", name := "<init>", desc := "(III)V" } : Jvm.MethodName)) ∈ lw_all := lw_g (lw_at lw_m7 138 rfl) rfl
theorem q1696 : (Jvm.Cond.code ({ cls := "SevenTable$Than", name := "<init>", desc := "(III)V" } : Jvm.MethodName) prog_20_method_1_code (4 : Nat) (Option.none : Option Jvm.ClassFile.FieldType)) ∈ lw_all := lw_g (lw_at lw_m7 139 rfl) rfl
theorem q1697 : (Jvm.Cond.methodLinkNest "SevenTable$Than" (3 : Nat) ({ cls := "SevenTable$Cond", name := "<init>", desc := "()V" } : Jvm.MethodName) "SevenTable") ∈ lw_tbl := lw_at lw_m7 140 rfl
theorem q1698 : (Jvm.Cond.fieldLink "SevenTable$Than" (9 : Nat) "SevenTable$Than" "what" "I") ∈ lw_all := lw_g (lw_at lw_m7 141 rfl) rfl
theorem q1699 : (Jvm.Cond.fieldLink "SevenTable$Than" (15 : Nat) "SevenTable$Than" "sign" "I") ∈ lw_all := lw_g (lw_at lw_m7 142 rfl) rfl
theorem q1700 : (Jvm.Cond.fieldLink "SevenTable$Than" (18 : Nat) "SevenTable$Than" "number" "I") ∈ lw_all := lw_g (lw_at lw_m7 143 rfl) rfl
theorem q1701 : (Jvm.Cond.laysFinal "SevenTable$Than" "SevenTable$Than" "what" "I") ∈ lw_all := lw_g (lw_at lw_m7 144 rfl) rfl
theorem q1702 : (Jvm.Cond.soleField "SevenTable$Than" "what") ∈ lw_all := lw_g (lw_at lw_m7 145 rfl) rfl
theorem q1703 : (Jvm.Cond.laysFinal "SevenTable$Than" "SevenTable$Than" "sign" "I") ∈ lw_all := lw_g (lw_at lw_m7 146 rfl) rfl
theorem q1704 : (Jvm.Cond.soleField "SevenTable$Than" "sign") ∈ lw_all := lw_g (lw_at lw_m7 147 rfl) rfl
theorem q1705 : (Jvm.Cond.laysFinal "SevenTable$Than" "SevenTable$Than" "number" "I") ∈ lw_all := lw_g (lw_at lw_m7 148 rfl) rfl
theorem q1706 : (Jvm.Cond.soleField "SevenTable$Than" "number") ∈ lw_all := lw_g (lw_at lw_m7 149 rfl) rfl
theorem q1707 : (Jvm.Cond.superclass "SevenTable$Than" "SevenTable$Cond") ∈ lw_all := lw_g (lw_at lw_m7 150 rfl) rfl
theorem q1743 : (Jvm.Cond.instanceMethod ({ cls := "SevenTable$Than", name := "holds", desc := "(LSevenTable$Game;I)Z" } : Jvm.MethodName)) ∈ lw_all := lw_g (lw_at lw_m7 186 rfl) rfl
theorem q1744 : (Jvm.Cond.code ({ cls := "SevenTable$Than", name := "holds", desc := "(LSevenTable$Game;I)Z" } : Jvm.MethodName) prog_20_method_3_code (4 : Nat) (Option.some Jvm.ClassFile.FieldType.boolean)) ∈ lw_all := lw_g (lw_at lw_m7 187 rfl) rfl
theorem q1745 : (Jvm.Cond.methodLink "SevenTable$Than" (43 : Nat) ({ cls := "SevenTable$Than", name := "value", desc := "(LSevenTable$Game;I)I" } : Jvm.MethodName)) ∈ lw_all := lw_g (lw_at lw_m7 188 rfl) rfl
theorem q1746 : (Jvm.Cond.privateMethod ({ cls := "SevenTable$Than", name := "value", desc := "(LSevenTable$Game;I)I" } : Jvm.MethodName)) ∈ lw_tbl := lw_at lw_m7 189 rfl
theorem q1747 : (Jvm.Cond.instanceMethod ({ cls := "SevenTable$Than", name := "value", desc := "(LSevenTable$Game;I)I" } : Jvm.MethodName)) ∈ lw_all := lw_g (lw_at lw_m7 190 rfl) rfl
theorem q1748 : (Jvm.Cond.code ({ cls := "SevenTable$Than", name := "value", desc := "(LSevenTable$Game;I)I" } : Jvm.MethodName) prog_20_method_2_code (5 : Nat) (Option.some Jvm.ClassFile.FieldType.int)) ∈ lw_all := lw_g (lw_at lw_m7 191 rfl) rfl
theorem q1749 : (Jvm.Cond.methodLink "SevenTable$Than" (37 : Nat) ({ cls := "java/lang/Math", name := "max", desc := "(II)I" } : Jvm.MethodName)) ∈ lw_all := lw_g (lw_at lw_m7 192 rfl) rfl
theorem q1753 : (Jvm.Cond.selects "SevenTable$Than" ({ cls := "SevenTable$Cond", name := "holds", desc := "(LSevenTable$Game;I)Z" } : Jvm.MethodName) ({ cls := "SevenTable$Than", name := "holds", desc := "(LSevenTable$Game;I)Z" } : Jvm.MethodName)) ∈ lw_all := lw_g (lw_at lw_m7 196 rfl) rfl
theorem q2515 : (Jvm.Cond.castable "SevenTable$Than" "java/lang/Object") ∈ lw_tbl := lw_at lw_m10 238 rfl
theorem in_X21 : ∀ w ∈ wsX210, w ∈ lw_all := lw_in wsX210 [1701, 1703, 1705] (by decide +kernel) (by decide +kernel)
/-! SevenTable$Two -/
set_option maxRecDepth 100000
def RX22 : String := "SevenTable$Two"
def TX22 : u_T := fun k => match k with
  | 0 => ("SevenTable$Two", "a", "LSevenTable$Cond;", true)
  | 1 => ("SevenTable$Two", "b", "LSevenTable$Cond;", true)
  | _ => ("SevenTable$Two", "both", "Z", true)
def tyX22 : Nat → FieldType := fun k => match k with
  | 0 => .object "SevenTable$Cond"
  | 1 => .object "SevenTable$Cond"
  | _ => .boolean
abbrev wsX220 : List Cond := u_ws RX22 TX22 3
theorem nmX22 : ∀ a, a < 3 → ∀ b, b < 3 → a ≠ b → (TX22 a).2.1 ≠ (TX22 b).2.1 := by decide +kernel
theorem tyX22_ok : ∀ k, k < 3 → parseFieldDescriptor (TX22 k).2.2.1 = some (tyX22 k) := by decide +kernel
abbrev cX22_init : ByteArray := prog_21_method_1_code
def yX22_init : MethodName := ⟨RX22, "<init>", "(LSevenTable$Cond;LSevenTable$Cond;Z)V"⟩
def dkwX22_init_0 : List UInt8 := [42, 183, 0, 1, 42, 43, 181, 0, 7, 42, 44, 181, 0, 13, 42, 29, 181, 0, 16, 177]
abbrev dktX22_init_0 : List UInt8 := dkwX22_init_0 ++ []
theorem dksX22_init_0 : cX22_init.data.toList.drop 0 = dktX22_init_0 := by decide +kernel
theorem dX22_init_0 : decode cX22_init 0 = .ok (.aload_n 0, 1) := dk_42 (dk_at dksX22_init_0 0 rfl rfl)
theorem dX22_init_1 : decode cX22_init 1 = .ok (.invokespecial 1, 3) := dk_183 0 1 (dk_at dksX22_init_0 1 rfl rfl)
theorem dX22_init_4 : decode cX22_init 4 = .ok (.aload_n 0, 1) := dk_42 (dk_at dksX22_init_0 4 rfl rfl)
theorem dX22_init_5 : decode cX22_init 5 = .ok (.aload_n 1, 1) := dk_43 (dk_at dksX22_init_0 5 rfl rfl)
theorem dX22_init_6 : decode cX22_init 6 = .ok (.putfield 7, 3) := dk_181 0 7 (dk_at dksX22_init_0 6 rfl rfl)
theorem dX22_init_9 : decode cX22_init 9 = .ok (.aload_n 0, 1) := dk_42 (dk_at dksX22_init_0 9 rfl rfl)
theorem dX22_init_10 : decode cX22_init 10 = .ok (.aload_n 2, 1) := dk_44 (dk_at dksX22_init_0 10 rfl rfl)
theorem dX22_init_11 : decode cX22_init 11 = .ok (.putfield 13, 3) := dk_181 0 13 (dk_at dksX22_init_0 11 rfl rfl)
theorem dX22_init_14 : decode cX22_init 14 = .ok (.aload_n 0, 1) := dk_42 (dk_at dksX22_init_0 14 rfl rfl)
theorem dX22_init_15 : decode cX22_init 15 = .ok (.iload_n 3, 1) := dk_29 (dk_at dksX22_init_0 15 rfl rfl)
theorem dX22_init_16 : decode cX22_init 16 = .ok (.putfield 16, 3) := dk_181 0 16 (dk_at dksX22_init_0 16 rfl rfl)
theorem dX22_init_19 : decode cX22_init 19 = .ok (.return_, 1) := dk_177 (dk_at dksX22_init_0 19 rfl rfl)
abbrev cX22_holds : ByteArray := prog_21_method_2_code
def yX22_holds : MethodName := ⟨RX22, "holds", "(LSevenTable$Game;I)Z"⟩
def dkwX22_holds_2 : List UInt8 := [154, 0, 15, 42, 180, 0, 13, 43, 28, 182, 0, 20, 153, 0, 7, 4, 167, 0, 4, 3, 172]
abbrev dktX22_holds_2 : List UInt8 := dkwX22_holds_2 ++ []
def dkwX22_holds_1 : List UInt8 := [28, 182, 0, 20, 153, 0, 7, 4, 167, 0, 36, 3, 167, 0, 32, 42, 180, 0, 7, 43, 28, 182, 0, 20]
abbrev dktX22_holds_1 : List UInt8 := dkwX22_holds_1 ++ dktX22_holds_2
def dkwX22_holds_0 : List UInt8 := [42, 180, 0, 16, 153, 0, 35, 42, 180, 0, 7, 43, 28, 182, 0, 20, 153, 0, 19, 42, 180, 0, 13, 43]
abbrev dktX22_holds_0 : List UInt8 := dkwX22_holds_0 ++ dktX22_holds_1
theorem dksX22_holds_0 : cX22_holds.data.toList.drop 0 = dktX22_holds_0 := by decide +kernel
theorem dksX22_holds_1 : cX22_holds.data.toList.drop 24 = dktX22_holds_1 := dk_seg dksX22_holds_0 24 rfl rfl
theorem dksX22_holds_2 : cX22_holds.data.toList.drop 48 = dktX22_holds_2 := dk_seg dksX22_holds_1 24 rfl rfl
theorem dX22_holds_0 : decode cX22_holds 0 = .ok (.aload_n 0, 1) := dk_42 (dk_at dksX22_holds_0 0 rfl rfl)
theorem dX22_holds_1 : decode cX22_holds 1 = .ok (.getfield 16, 3) := dk_180 0 16 (dk_at dksX22_holds_0 1 rfl rfl)
theorem dX22_holds_4 : decode cX22_holds 4 = .ok (.ifCond .eq 35, 3) := dk_153 0 35 (dk_at dksX22_holds_0 4 rfl rfl)
theorem dX22_holds_7 : decode cX22_holds 7 = .ok (.aload_n 0, 1) := dk_42 (dk_at dksX22_holds_0 7 rfl rfl)
theorem dX22_holds_8 : decode cX22_holds 8 = .ok (.getfield 7, 3) := dk_180 0 7 (dk_at dksX22_holds_0 8 rfl rfl)
theorem dX22_holds_11 : decode cX22_holds 11 = .ok (.aload_n 1, 1) := dk_43 (dk_at dksX22_holds_0 11 rfl rfl)
theorem dX22_holds_12 : decode cX22_holds 12 = .ok (.iload_n 2, 1) := dk_28 (dk_at dksX22_holds_0 12 rfl rfl)
theorem dX22_holds_13 : decode cX22_holds 13 = .ok (.invokevirtual 20, 3) := dk_182 0 20 (dk_at dksX22_holds_0 13 rfl rfl)
theorem dX22_holds_16 : decode cX22_holds 16 = .ok (.ifCond .eq 19, 3) := dk_153 0 19 (dk_at dksX22_holds_0 16 rfl rfl)
theorem dX22_holds_19 : decode cX22_holds 19 = .ok (.aload_n 0, 1) := dk_42 (dk_at dksX22_holds_0 19 rfl rfl)
theorem dX22_holds_20 : decode cX22_holds 20 = .ok (.getfield 13, 3) := dk_180 0 13 (dk_at dksX22_holds_0 20 rfl rfl)
theorem dX22_holds_23 : decode cX22_holds 23 = .ok (.aload_n 1, 1) := dk_43 (dk_at dksX22_holds_0 23 rfl rfl)
theorem dX22_holds_24 : decode cX22_holds 24 = .ok (.iload_n 2, 1) := dk_28 (dk_at dksX22_holds_1 0 rfl rfl)
theorem dX22_holds_25 : decode cX22_holds 25 = .ok (.invokevirtual 20, 3) := dk_182 0 20 (dk_at dksX22_holds_1 1 rfl rfl)
theorem dX22_holds_28 : decode cX22_holds 28 = .ok (.ifCond .eq 7, 3) := dk_153 0 7 (dk_at dksX22_holds_1 4 rfl rfl)
theorem dX22_holds_31 : decode cX22_holds 31 = .ok (.iconst 1, 1) := dk_4 (dk_at dksX22_holds_1 7 rfl rfl)
theorem dX22_holds_32 : decode cX22_holds 32 = .ok (.goto 36, 3) := dk_167 0 36 (dk_at dksX22_holds_1 8 rfl rfl)
theorem dX22_holds_35 : decode cX22_holds 35 = .ok (.iconst 0, 1) := dk_3 (dk_at dksX22_holds_1 11 rfl rfl)
theorem dX22_holds_36 : decode cX22_holds 36 = .ok (.goto 32, 3) := dk_167 0 32 (dk_at dksX22_holds_1 12 rfl rfl)
theorem dX22_holds_39 : decode cX22_holds 39 = .ok (.aload_n 0, 1) := dk_42 (dk_at dksX22_holds_1 15 rfl rfl)
theorem dX22_holds_40 : decode cX22_holds 40 = .ok (.getfield 7, 3) := dk_180 0 7 (dk_at dksX22_holds_1 16 rfl rfl)
theorem dX22_holds_43 : decode cX22_holds 43 = .ok (.aload_n 1, 1) := dk_43 (dk_at dksX22_holds_1 19 rfl rfl)
theorem dX22_holds_44 : decode cX22_holds 44 = .ok (.iload_n 2, 1) := dk_28 (dk_at dksX22_holds_1 20 rfl rfl)
theorem dX22_holds_45 : decode cX22_holds 45 = .ok (.invokevirtual 20, 3) := dk_182 0 20 (dk_at dksX22_holds_1 21 rfl rfl)
theorem dX22_holds_48 : decode cX22_holds 48 = .ok (.ifCond .ne 15, 3) := dk_154 0 15 (dk_at dksX22_holds_2 0 rfl rfl)
theorem dX22_holds_51 : decode cX22_holds 51 = .ok (.aload_n 0, 1) := dk_42 (dk_at dksX22_holds_2 3 rfl rfl)
theorem dX22_holds_52 : decode cX22_holds 52 = .ok (.getfield 13, 3) := dk_180 0 13 (dk_at dksX22_holds_2 4 rfl rfl)
theorem dX22_holds_55 : decode cX22_holds 55 = .ok (.aload_n 1, 1) := dk_43 (dk_at dksX22_holds_2 7 rfl rfl)
theorem dX22_holds_56 : decode cX22_holds 56 = .ok (.iload_n 2, 1) := dk_28 (dk_at dksX22_holds_2 8 rfl rfl)
theorem dX22_holds_57 : decode cX22_holds 57 = .ok (.invokevirtual 20, 3) := dk_182 0 20 (dk_at dksX22_holds_2 9 rfl rfl)
theorem dX22_holds_60 : decode cX22_holds 60 = .ok (.ifCond .eq 7, 3) := dk_153 0 7 (dk_at dksX22_holds_2 12 rfl rfl)
theorem dX22_holds_63 : decode cX22_holds 63 = .ok (.iconst 1, 1) := dk_4 (dk_at dksX22_holds_2 15 rfl rfl)
theorem dX22_holds_64 : decode cX22_holds 64 = .ok (.goto 4, 3) := dk_167 0 4 (dk_at dksX22_holds_2 16 rfl rfl)
theorem dX22_holds_67 : decode cX22_holds 67 = .ok (.iconst 0, 1) := dk_3 (dk_at dksX22_holds_2 19 rfl rfl)
theorem dX22_holds_68 : decode cX22_holds 68 = .ok (.ireturn, 1) := dk_172 (dk_at dksX22_holds_2 20 rfl rfl)
theorem q157 : (Jvm.Cond.initialized "SevenTable$Two") ∈ lw_all := lw_g (lw_at lw_m1 40 rfl) rfl
theorem q1095 : (Jvm.Cond.selects "SevenTable$Two" ({ cls := "java/lang/Object", name := "equals", desc := "(Ljava/lang/Object;)Z" } : Jvm.MethodName) ({ cls := "java/lang/Object", name := "equals", desc := "(Ljava/lang/Object;)Z" } : Jvm.MethodName)) ∈ lw_all := lw_g (lw_at lw_m5 18 rfl) rfl
theorem q1140 : (Jvm.Cond.selects "SevenTable$Two" ({ cls := "java/lang/Object", name := "getClass", desc := "()Ljava/lang/Class;" } : Jvm.MethodName) ({ cls := "java/lang/Object", name := "getClass", desc := "()Ljava/lang/Class;" } : Jvm.MethodName)) ∈ lw_all := lw_g (lw_at lw_m5 63 rfl) rfl
theorem q1710 : (Jvm.Cond.instantiable "SevenTable$Two" (3 : Nat)) ∈ lw_all := lw_g (lw_at lw_m7 153 rfl) rfl
theorem q1712 : (Jvm.Cond.instanceMethod ({ cls := "SevenTable$Two", name := "<init>", desc := "(LSevenTable$Cond;LSevenTable$Cond;Z)V" } : Jvm.MethodName)) ∈ lw_all := lw_g (lw_at lw_m7 155 rfl) rfl
theorem q1713 : (Jvm.Cond.code ({ cls := "SevenTable$Two", name := "<init>", desc := "(LSevenTable$Cond;LSevenTable$Cond;Z)V" } : Jvm.MethodName) prog_21_method_1_code (4 : Nat) (Option.none : Option Jvm.ClassFile.FieldType)) ∈ lw_all := lw_g (lw_at lw_m7 156 rfl) rfl
theorem q1714 : (Jvm.Cond.methodLinkNest "SevenTable$Two" (1 : Nat) ({ cls := "SevenTable$Cond", name := "<init>", desc := "()V" } : Jvm.MethodName) "SevenTable") ∈ lw_tbl := lw_at lw_m7 157 rfl
theorem q1715 : (Jvm.Cond.fieldLink "SevenTable$Two" (7 : Nat) "SevenTable$Two" "a" "LSevenTable$Cond;") ∈ lw_all := lw_g (lw_at lw_m7 158 rfl) rfl
theorem q1716 : (Jvm.Cond.fieldLink "SevenTable$Two" (13 : Nat) "SevenTable$Two" "b" "LSevenTable$Cond;") ∈ lw_all := lw_g (lw_at lw_m7 159 rfl) rfl
theorem q1717 : (Jvm.Cond.fieldLink "SevenTable$Two" (16 : Nat) "SevenTable$Two" "both" "Z") ∈ lw_all := lw_g (lw_at lw_m7 160 rfl) rfl
theorem q1718 : (Jvm.Cond.laysFinal "SevenTable$Two" "SevenTable$Two" "a" "LSevenTable$Cond;") ∈ lw_all := lw_g (lw_at lw_m7 161 rfl) rfl
theorem q1719 : (Jvm.Cond.soleField "SevenTable$Two" "a") ∈ lw_all := lw_g (lw_at lw_m7 162 rfl) rfl
theorem q1720 : (Jvm.Cond.laysFinal "SevenTable$Two" "SevenTable$Two" "b" "LSevenTable$Cond;") ∈ lw_all := lw_g (lw_at lw_m7 163 rfl) rfl
theorem q1721 : (Jvm.Cond.soleField "SevenTable$Two" "b") ∈ lw_all := lw_g (lw_at lw_m7 164 rfl) rfl
theorem q1722 : (Jvm.Cond.laysFinal "SevenTable$Two" "SevenTable$Two" "both" "Z") ∈ lw_all := lw_g (lw_at lw_m7 165 rfl) rfl
theorem q1723 : (Jvm.Cond.soleField "SevenTable$Two" "both") ∈ lw_all := lw_g (lw_at lw_m7 166 rfl) rfl
theorem q1724 : (Jvm.Cond.superclass "SevenTable$Two" "SevenTable$Cond") ∈ lw_all := lw_g (lw_at lw_m7 167 rfl) rfl
theorem q1750 : (Jvm.Cond.instanceMethod ({ cls := "SevenTable$Two", name := "holds", desc := "(LSevenTable$Game;I)Z" } : Jvm.MethodName)) ∈ lw_all := lw_g (lw_at lw_m7 193 rfl) rfl
theorem q1751 : (Jvm.Cond.code ({ cls := "SevenTable$Two", name := "holds", desc := "(LSevenTable$Game;I)Z" } : Jvm.MethodName) prog_21_method_2_code (3 : Nat) (Option.some Jvm.ClassFile.FieldType.boolean)) ∈ lw_all := lw_g (lw_at lw_m7 194 rfl) rfl
theorem q1752 : (Jvm.Cond.methodLink "SevenTable$Two" (20 : Nat) ({ cls := "SevenTable$Cond", name := "holds", desc := "(LSevenTable$Game;I)Z" } : Jvm.MethodName)) ∈ lw_all := lw_g (lw_at lw_m7 195 rfl) rfl
theorem q1754 : (Jvm.Cond.selects "SevenTable$Two" ({ cls := "SevenTable$Cond", name := "holds", desc := "(LSevenTable$Game;I)Z" } : Jvm.MethodName) ({ cls := "SevenTable$Two", name := "holds", desc := "(LSevenTable$Game;I)Z" } : Jvm.MethodName)) ∈ lw_all := lw_g (lw_at lw_m7 197 rfl) rfl
theorem q2516 : (Jvm.Cond.castable "SevenTable$Two" "java/lang/Object") ∈ lw_tbl := lw_at lw_m10 239 rfl
theorem in_X22 : ∀ w ∈ wsX220, w ∈ lw_all := lw_in wsX220 [1718, 1720, 1722] (by decide +kernel) (by decide +kernel)
